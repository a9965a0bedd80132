set_option maxRecDepth 100000
theorem q64 : (Jvm.Cond.initialized "LampLeaseOfficeLaw") ∈ lw_all := lw_g (lw_at lw_m1 0 rfl) rfl
theorem q104 : (Jvm.Cond.classLink "LampLeaseOfficeLaw" (8 : Nat) "LampLeaseOffice") ∈ lw_all := lw_g (lw_at lw_m1 40 rfl) rfl
theorem q106 : (Jvm.Cond.methodLink "LampLeaseOfficeLaw" (139 : Nat) ({ cls := "LampLeaseOffice", name := "<init>", desc := "()V" } : Jvm.MethodName)) ∈ lw_all := lw_g (lw_at lw_m1 42 rfl) rfl
theorem q242 : (Jvm.Cond.methodLink "LampLeaseOfficeLaw" (173 : Nat) ({ cls := "LampLeaseOffice", name := "hour", desc := "()I" } : Jvm.MethodName)) ∈ lw_all := lw_g (lw_at lw_m1 178 rfl) rfl
theorem q246 : (Jvm.Cond.methodLink "LampLeaseOfficeLaw" (177 : Nat) ({ cls := "LampLeaseOffice", name := "shipCount", desc := "()I" } : Jvm.MethodName)) ∈ lw_all := lw_g (lw_at lw_m1 182 rfl) rfl
theorem q254 : (Jvm.Cond.methodLink "LampLeaseOfficeLaw" (196 : Nat) ({ cls := "LampLeaseOffice", name := "lampCount", desc := "()I" } : Jvm.MethodName)) ∈ lw_all := lw_g (lw_at lw_m1 190 rfl) rfl
theorem q258 : (Jvm.Cond.methodLink "LampLeaseOfficeLaw" (218 : Nat) ({ cls := "LampLeaseOffice", name := "leasedLamps", desc := "()I" } : Jvm.MethodName)) ∈ lw_all := lw_g (lw_at lw_m1 194 rfl) rfl
theorem q389 : (Jvm.Cond.methodLink "LampLeaseOfficeLaw" (222 : Nat) ({ cls := "LampLeaseOffice", name := "oil", desc := "()I" } : Jvm.MethodName)) ∈ lw_all := lw_g (lw_at lw_m2 85 rfl) rfl
theorem q393 : (Jvm.Cond.methodLink "LampLeaseOfficeLaw" (226 : Nat) ({ cls := "LampLeaseOffice", name := "consumption", desc := "()I" } : Jvm.MethodName)) ∈ lw_all := lw_g (lw_at lw_m2 89 rfl) rfl
theorem q401 : (Jvm.Cond.methodLink "LampLeaseOfficeLaw" (236 : Nat) ({ cls := "LampLeaseOffice", name := "brightNext", desc := "()I" } : Jvm.MethodName)) ∈ lw_all := lw_g (lw_at lw_m2 97 rfl) rfl
theorem q550 : (Jvm.Cond.methodLink "LampLeaseOfficeLaw" (240 : Nat) ({ cls := "LampLeaseOffice", name := "mostBright", desc := "()I" } : Jvm.MethodName)) ∈ lw_all := lw_g (lw_at lw_m3 6 rfl) rfl
theorem q558 : (Jvm.Cond.methodLink "LampLeaseOfficeLaw" (244 : Nat) ({ cls := "LampLeaseOffice", name := "mostBrightBySums", desc := "()I" } : Jvm.MethodName)) ∈ lw_all := lw_g (lw_at lw_m3 14 rfl) rfl
theorem q568 : (Jvm.Cond.methodLink "LampLeaseOfficeLaw" (254 : Nat) ({ cls := "LampLeaseOffice", name := "requestCount", desc := "()I" } : Jvm.MethodName)) ∈ lw_all := lw_g (lw_at lw_m3 24 rfl) rfl
theorem q572 : (Jvm.Cond.methodLink "LampLeaseOfficeLaw" (264 : Nat) ({ cls := "LampLeaseOffice", name := "refusedRenewals", desc := "()I" } : Jvm.MethodName)) ∈ lw_all := lw_g (lw_at lw_m3 28 rfl) rfl
theorem q576 : (Jvm.Cond.methodLink "LampLeaseOfficeLaw" (268 : Nat) ({ cls := "LampLeaseOffice", name := "officeCoins", desc := "()I" } : Jvm.MethodName)) ∈ lw_all := lw_g (lw_at lw_m3 32 rfl) rfl
theorem q580 : (Jvm.Cond.methodLink "LampLeaseOfficeLaw" (285 : Nat) ({ cls := "LampLeaseOffice", name := "isConsistent", desc := "()Z" } : Jvm.MethodName)) ∈ lw_all := lw_g (lw_at lw_m3 36 rfl) rfl
theorem q629 : (Jvm.Cond.methodLink "LampLeaseOfficeLaw" (306 : Nat) ({ cls := "LampLeaseOffice", name := "writeLamps", desc := "()I" } : Jvm.MethodName)) ∈ lw_all := lw_g (lw_at lw_m3 85 rfl) rfl
theorem q949 : (Jvm.Cond.methodLink "LampLeaseOfficeLaw" (313 : Nat) ({ cls := "LampLeaseOffice", name := "undoCount", desc := "()I" } : Jvm.MethodName)) ∈ lw_all := lw_g (lw_at lw_m4 165 rfl) rfl
theorem q953 : (Jvm.Cond.methodLink "LampLeaseOfficeLaw" (320 : Nat) ({ cls := "LampLeaseOffice", name := "save", desc := "()I" } : Jvm.MethodName)) ∈ lw_all := lw_g (lw_at lw_m4 169 rfl) rfl
theorem q957 : (Jvm.Cond.methodLink "LampLeaseOfficeLaw" (143 : Nat) ({ cls := "LampLeaseOfficeLaw", name := "addShip", desc := "(LLampLeaseOffice;[J)I" } : Jvm.MethodName)) ∈ lw_all := lw_g (lw_at lw_m4 173 rfl) rfl
theorem q958 : (Jvm.Cond.static ({ cls := "LampLeaseOfficeLaw", name := "addShip", desc := "(LLampLeaseOffice;[J)I" } : Jvm.MethodName)) ∈ lw_all := lw_g (lw_at lw_m4 174 rfl) rfl
theorem q959 : (Jvm.Cond.codeWith ({ cls := "LampLeaseOfficeLaw", name := "addShip", desc := "(LLampLeaseOffice;[J)I" } : Jvm.MethodName) method_3_code (3 : Nat) (Option.some Jvm.ClassFile.FieldType.int) [((0 : Nat), (8 : Nat), (11 : Nat), (13 : Nat))]) ∈ lw_all := lw_g (lw_at lw_m4 175 rfl) rfl
theorem q960 : (Jvm.Cond.classLink "LampLeaseOfficeLaw" (13 : Nat) "java/lang/IllegalStateException") ∈ lw_all := lw_g (lw_at lw_m4 176 rfl) rfl
theorem q961 : (Jvm.Cond.methodLink "LampLeaseOfficeLaw" (7 : Nat) ({ cls := "LampLeaseOffice", name := "addShip", desc := "()I" } : Jvm.MethodName)) ∈ lw_all := lw_g (lw_at lw_m4 177 rfl) rfl
theorem q1002 : (Jvm.Cond.methodLink "LampLeaseOfficeLaw" (152 : Nat) ({ cls := "LampLeaseOfficeLaw", name := "addLamp", desc := "(LLampLeaseOffice;I[J)I" } : Jvm.MethodName)) ∈ lw_all := lw_g (lw_at lw_m4 218 rfl) rfl
theorem q1003 : (Jvm.Cond.static ({ cls := "LampLeaseOfficeLaw", name := "addLamp", desc := "(LLampLeaseOffice;I[J)I" } : Jvm.MethodName)) ∈ lw_all := lw_g (lw_at lw_m4 219 rfl) rfl
theorem q1004 : (Jvm.Cond.codeWith ({ cls := "LampLeaseOfficeLaw", name := "addLamp", desc := "(LLampLeaseOffice;I[J)I" } : Jvm.MethodName) method_4_code (4 : Nat) (Option.some Jvm.ClassFile.FieldType.int) [((0 : Nat), (9 : Nat), (12 : Nat), (19 : Nat)), ((0 : Nat), (9 : Nat), (15 : Nat), (13 : Nat))]) ∈ lw_all := lw_g (lw_at lw_m4 220 rfl) rfl
theorem q1005 : (Jvm.Cond.classLink "LampLeaseOfficeLaw" (19 : Nat) "java/lang/IllegalArgumentException") ∈ lw_all := lw_g (lw_at lw_m4 221 rfl) rfl
theorem q1006 : (Jvm.Cond.methodLink "LampLeaseOfficeLaw" (15 : Nat) ({ cls := "LampLeaseOffice", name := "addLamp", desc := "(I)I" } : Jvm.MethodName)) ∈ lw_all := lw_g (lw_at lw_m4 222 rfl) rfl
theorem q1026 : (Jvm.Cond.methodLink "LampLeaseOfficeLaw" (156 : Nat) ({ cls := "LampLeaseOfficeLaw", name := "addOil", desc := "(LLampLeaseOffice;I[J)I" } : Jvm.MethodName)) ∈ lw_all := lw_g (lw_at lw_m5 2 rfl) rfl
theorem q1027 : (Jvm.Cond.static ({ cls := "LampLeaseOfficeLaw", name := "addOil", desc := "(LLampLeaseOffice;I[J)I" } : Jvm.MethodName)) ∈ lw_all := lw_g (lw_at lw_m5 3 rfl) rfl
theorem q1028 : (Jvm.Cond.codeWith ({ cls := "LampLeaseOfficeLaw", name := "addOil", desc := "(LLampLeaseOffice;I[J)I" } : Jvm.MethodName) method_5_code (4 : Nat) (Option.some Jvm.ClassFile.FieldType.int) [((0 : Nat), (9 : Nat), (12 : Nat), (19 : Nat)), ((0 : Nat), (9 : Nat), (15 : Nat), (13 : Nat))]) ∈ lw_all := lw_g (lw_at lw_m5 4 rfl) rfl
theorem q1029 : (Jvm.Cond.methodLink "LampLeaseOfficeLaw" (21 : Nat) ({ cls := "LampLeaseOffice", name := "addOil", desc := "(I)I" } : Jvm.MethodName)) ∈ lw_all := lw_g (lw_at lw_m5 5 rfl) rfl
theorem q1037 : (Jvm.Cond.methodLink "LampLeaseOfficeLaw" (159 : Nat) ({ cls := "LampLeaseOfficeLaw", name := "lease", desc := "(LLampLeaseOffice;III[J)I" } : Jvm.MethodName)) ∈ lw_all := lw_g (lw_at lw_m5 13 rfl) rfl
theorem q1038 : (Jvm.Cond.static ({ cls := "LampLeaseOfficeLaw", name := "lease", desc := "(LLampLeaseOffice;III[J)I" } : Jvm.MethodName)) ∈ lw_all := lw_g (lw_at lw_m5 14 rfl) rfl
theorem q1039 : (Jvm.Cond.codeWith ({ cls := "LampLeaseOfficeLaw", name := "lease", desc := "(LLampLeaseOffice;III[J)I" } : Jvm.MethodName) method_6_code (6 : Nat) (Option.some Jvm.ClassFile.FieldType.int) [((0 : Nat), (12 : Nat), (15 : Nat), (28 : Nat)), ((0 : Nat), (12 : Nat), (19 : Nat), (19 : Nat)), ((0 : Nat), (12 : Nat), (23 : Nat), (13 : Nat)), ((0 : Nat), (12 : Nat), (27 : Nat), (30 : Nat))]) ∈ lw_all := lw_g (lw_at lw_m5 15 rfl) rfl
theorem q1040 : (Jvm.Cond.classLink "LampLeaseOfficeLaw" (28 : Nat) "java/lang/IndexOutOfBoundsException") ∈ lw_all := lw_g (lw_at lw_m5 16 rfl) rfl
theorem q1043 : (Jvm.Cond.classLink "LampLeaseOfficeLaw" (30 : Nat) "java/lang/UnsupportedOperationException") ∈ lw_all := lw_g (lw_at lw_m5 19 rfl) rfl
theorem q1044 : (Jvm.Cond.methodLink "LampLeaseOfficeLaw" (24 : Nat) ({ cls := "LampLeaseOffice", name := "lease", desc := "(III)I" } : Jvm.MethodName)) ∈ lw_all := lw_g (lw_at lw_m5 20 rfl) rfl
theorem q1123 : (Jvm.Cond.methodLink "LampLeaseOfficeLaw" (163 : Nat) ({ cls := "LampLeaseOfficeLaw", name := "requestRenewal", desc := "(LLampLeaseOffice;II[J)I" } : Jvm.MethodName)) ∈ lw_all := lw_g (lw_at lw_m5 99 rfl) rfl
theorem q1124 : (Jvm.Cond.static ({ cls := "LampLeaseOfficeLaw", name := "requestRenewal", desc := "(LLampLeaseOffice;II[J)I" } : Jvm.MethodName)) ∈ lw_all := lw_g (lw_at lw_m5 100 rfl) rfl
theorem q1125 : (Jvm.Cond.codeWith ({ cls := "LampLeaseOfficeLaw", name := "requestRenewal", desc := "(LLampLeaseOffice;II[J)I" } : Jvm.MethodName) method_7_code (5 : Nat) (Option.some Jvm.ClassFile.FieldType.int) [((0 : Nat), (10 : Nat), (13 : Nat), (28 : Nat)), ((0 : Nat), (10 : Nat), (17 : Nat), (19 : Nat)), ((0 : Nat), (10 : Nat), (21 : Nat), (36 : Nat)), ((0 : Nat), (10 : Nat), (25 : Nat), (13 : Nat))]) ∈ lw_all := lw_g (lw_at lw_m5 101 rfl) rfl
theorem q1126 : (Jvm.Cond.classLink "LampLeaseOfficeLaw" (36 : Nat) "java/util/NoSuchElementException") ∈ lw_all := lw_g (lw_at lw_m5 102 rfl) rfl
theorem q1127 : (Jvm.Cond.methodLink "LampLeaseOfficeLaw" (32 : Nat) ({ cls := "LampLeaseOffice", name := "requestRenewal", desc := "(II)I" } : Jvm.MethodName)) ∈ lw_all := lw_g (lw_at lw_m5 103 rfl) rfl
theorem q1161 : (Jvm.Cond.methodLink "LampLeaseOfficeLaw" (167 : Nat) ({ cls := "LampLeaseOfficeLaw", name := "giveUp", desc := "(LLampLeaseOffice;I[J)I" } : Jvm.MethodName)) ∈ lw_all := lw_g (lw_at lw_m5 137 rfl) rfl
theorem q1162 : (Jvm.Cond.static ({ cls := "LampLeaseOfficeLaw", name := "giveUp", desc := "(LLampLeaseOffice;I[J)I" } : Jvm.MethodName)) ∈ lw_all := lw_g (lw_at lw_m5 138 rfl) rfl
theorem q1163 : (Jvm.Cond.codeWith ({ cls := "LampLeaseOfficeLaw", name := "giveUp", desc := "(LLampLeaseOffice;I[J)I" } : Jvm.MethodName) method_8_code (4 : Nat) (Option.some Jvm.ClassFile.FieldType.int) [((0 : Nat), (9 : Nat), (12 : Nat), (28 : Nat)), ((0 : Nat), (9 : Nat), (15 : Nat), (36 : Nat))]) ∈ lw_all := lw_g (lw_at lw_m5 139 rfl) rfl
theorem q1164 : (Jvm.Cond.methodLink "LampLeaseOfficeLaw" (38 : Nat) ({ cls := "LampLeaseOffice", name := "giveUp", desc := "(I)I" } : Jvm.MethodName)) ∈ lw_all := lw_g (lw_at lw_m5 140 rfl) rfl
theorem q1177 : (Jvm.Cond.methodLink "LampLeaseOfficeLaw" (170 : Nat) ({ cls := "LampLeaseOfficeLaw", name := "passHours", desc := "(LLampLeaseOffice;I[J)I" } : Jvm.MethodName)) ∈ lw_all := lw_g (lw_at lw_m5 153 rfl) rfl
theorem q1178 : (Jvm.Cond.static ({ cls := "LampLeaseOfficeLaw", name := "passHours", desc := "(LLampLeaseOffice;I[J)I" } : Jvm.MethodName)) ∈ lw_all := lw_g (lw_at lw_m5 154 rfl) rfl
theorem q1179 : (Jvm.Cond.codeWith ({ cls := "LampLeaseOfficeLaw", name := "passHours", desc := "(LLampLeaseOffice;I[J)I" } : Jvm.MethodName) method_9_code (4 : Nat) (Option.some Jvm.ClassFile.FieldType.int) [((0 : Nat), (9 : Nat), (12 : Nat), (19 : Nat))]) ∈ lw_all := lw_g (lw_at lw_m5 155 rfl) rfl
theorem q1180 : (Jvm.Cond.methodLink "LampLeaseOfficeLaw" (41 : Nat) ({ cls := "LampLeaseOffice", name := "passHours", desc := "(I)I" } : Jvm.MethodName)) ∈ lw_all := lw_g (lw_at lw_m5 156 rfl) rfl
theorem q1222 : (Jvm.Cond.methodLink "LampLeaseOfficeLaw" (181 : Nat) ({ cls := "LampLeaseOfficeLaw", name := "coins", desc := "(LLampLeaseOffice;I[J)I" } : Jvm.MethodName)) ∈ lw_all := lw_g (lw_at lw_m5 198 rfl) rfl
theorem q1223 : (Jvm.Cond.static ({ cls := "LampLeaseOfficeLaw", name := "coins", desc := "(LLampLeaseOffice;I[J)I" } : Jvm.MethodName)) ∈ lw_all := lw_g (lw_at lw_m5 199 rfl) rfl
theorem q1224 : (Jvm.Cond.codeWith ({ cls := "LampLeaseOfficeLaw", name := "coins", desc := "(LLampLeaseOffice;I[J)I" } : Jvm.MethodName) method_10_code (4 : Nat) (Option.some Jvm.ClassFile.FieldType.int) [((0 : Nat), (9 : Nat), (12 : Nat), (28 : Nat))]) ∈ lw_all := lw_g (lw_at lw_m5 200 rfl) rfl
theorem q1225 : (Jvm.Cond.methodLink "LampLeaseOfficeLaw" (44 : Nat) ({ cls := "LampLeaseOffice", name := "coins", desc := "(I)I" } : Jvm.MethodName)) ∈ lw_all := lw_g (lw_at lw_m5 201 rfl) rfl
theorem q1230 : (Jvm.Cond.methodLink "LampLeaseOfficeLaw" (184 : Nat) ({ cls := "LampLeaseOfficeLaw", name := "finesPaid", desc := "(LLampLeaseOffice;I[J)I" } : Jvm.MethodName)) ∈ lw_all := lw_g (lw_at lw_m5 206 rfl) rfl
theorem q1231 : (Jvm.Cond.static ({ cls := "LampLeaseOfficeLaw", name := "finesPaid", desc := "(LLampLeaseOffice;I[J)I" } : Jvm.MethodName)) ∈ lw_all := lw_g (lw_at lw_m5 207 rfl) rfl
theorem q1232 : (Jvm.Cond.codeWith ({ cls := "LampLeaseOfficeLaw", name := "finesPaid", desc := "(LLampLeaseOffice;I[J)I" } : Jvm.MethodName) method_11_code (4 : Nat) (Option.some Jvm.ClassFile.FieldType.int) [((0 : Nat), (9 : Nat), (12 : Nat), (28 : Nat))]) ∈ lw_all := lw_g (lw_at lw_m5 208 rfl) rfl
theorem q1233 : (Jvm.Cond.methodLink "LampLeaseOfficeLaw" (47 : Nat) ({ cls := "LampLeaseOffice", name := "finesPaid", desc := "(I)I" } : Jvm.MethodName)) ∈ lw_all := lw_g (lw_at lw_m5 209 rfl) rfl
theorem q1237 : (Jvm.Cond.methodLink "LampLeaseOfficeLaw" (187 : Nat) ({ cls := "LampLeaseOfficeLaw", name := "darkHours", desc := "(LLampLeaseOffice;I[J)I" } : Jvm.MethodName)) ∈ lw_all := lw_g (lw_at lw_m5 213 rfl) rfl
theorem q1238 : (Jvm.Cond.static ({ cls := "LampLeaseOfficeLaw", name := "darkHours", desc := "(LLampLeaseOffice;I[J)I" } : Jvm.MethodName)) ∈ lw_all := lw_g (lw_at lw_m5 214 rfl) rfl
theorem q1239 : (Jvm.Cond.codeWith ({ cls := "LampLeaseOfficeLaw", name := "darkHours", desc := "(LLampLeaseOffice;I[J)I" } : Jvm.MethodName) method_12_code (4 : Nat) (Option.some Jvm.ClassFile.FieldType.int) [((0 : Nat), (9 : Nat), (12 : Nat), (28 : Nat))]) ∈ lw_all := lw_g (lw_at lw_m5 215 rfl) rfl
theorem q1240 : (Jvm.Cond.methodLink "LampLeaseOfficeLaw" (50 : Nat) ({ cls := "LampLeaseOffice", name := "darkHours", desc := "(I)I" } : Jvm.MethodName)) ∈ lw_all := lw_g (lw_at lw_m5 216 rfl) rfl
theorem q1244 : (Jvm.Cond.methodLink "LampLeaseOfficeLaw" (190 : Nat) ({ cls := "LampLeaseOfficeLaw", name := "demand", desc := "(LLampLeaseOffice;I[J)I" } : Jvm.MethodName)) ∈ lw_all := lw_g (lw_at lw_m5 220 rfl) rfl
theorem q1245 : (Jvm.Cond.static ({ cls := "LampLeaseOfficeLaw", name := "demand", desc := "(LLampLeaseOffice;I[J)I" } : Jvm.MethodName)) ∈ lw_all := lw_g (lw_at lw_m5 221 rfl) rfl
theorem q1246 : (Jvm.Cond.codeWith ({ cls := "LampLeaseOfficeLaw", name := "demand", desc := "(LLampLeaseOffice;I[J)I" } : Jvm.MethodName) method_13_code (4 : Nat) (Option.some Jvm.ClassFile.FieldType.int) [((0 : Nat), (9 : Nat), (12 : Nat), (28 : Nat))]) ∈ lw_all := lw_g (lw_at lw_m5 222 rfl) rfl
theorem q1247 : (Jvm.Cond.methodLink "LampLeaseOfficeLaw" (53 : Nat) ({ cls := "LampLeaseOffice", name := "demand", desc := "(I)I" } : Jvm.MethodName)) ∈ lw_all := lw_g (lw_at lw_m5 223 rfl) rfl
theorem q1252 : (Jvm.Cond.methodLink "LampLeaseOfficeLaw" (193 : Nat) ({ cls := "LampLeaseOfficeLaw", name := "leasesOf", desc := "(LLampLeaseOffice;I[J)I" } : Jvm.MethodName)) ∈ lw_all := lw_g (lw_at lw_m5 228 rfl) rfl
theorem q1253 : (Jvm.Cond.static ({ cls := "LampLeaseOfficeLaw", name := "leasesOf", desc := "(LLampLeaseOffice;I[J)I" } : Jvm.MethodName)) ∈ lw_all := lw_g (lw_at lw_m5 229 rfl) rfl
theorem q1254 : (Jvm.Cond.codeWith ({ cls := "LampLeaseOfficeLaw", name := "leasesOf", desc := "(LLampLeaseOffice;I[J)I" } : Jvm.MethodName) method_14_code (4 : Nat) (Option.some Jvm.ClassFile.FieldType.int) [((0 : Nat), (9 : Nat), (12 : Nat), (28 : Nat))]) ∈ lw_all := lw_g (lw_at lw_m5 230 rfl) rfl
theorem q1255 : (Jvm.Cond.methodLink "LampLeaseOfficeLaw" (56 : Nat) ({ cls := "LampLeaseOffice", name := "leasesOf", desc := "(I)I" } : Jvm.MethodName)) ∈ lw_all := lw_g (lw_at lw_m5 231 rfl) rfl
theorem q1260 : (Jvm.Cond.methodLink "LampLeaseOfficeLaw" (200 : Nat) ({ cls := "LampLeaseOfficeLaw", name := "level", desc := "(LLampLeaseOffice;I[J)I" } : Jvm.MethodName)) ∈ lw_all := lw_g (lw_at lw_m5 236 rfl) rfl
theorem q1261 : (Jvm.Cond.static ({ cls := "LampLeaseOfficeLaw", name := "level", desc := "(LLampLeaseOffice;I[J)I" } : Jvm.MethodName)) ∈ lw_all := lw_g (lw_at lw_m5 237 rfl) rfl
theorem q1262 : (Jvm.Cond.codeWith ({ cls := "LampLeaseOfficeLaw", name := "level", desc := "(LLampLeaseOffice;I[J)I" } : Jvm.MethodName) method_15_code (4 : Nat) (Option.some Jvm.ClassFile.FieldType.int) [((0 : Nat), (9 : Nat), (12 : Nat), (28 : Nat))]) ∈ lw_all := lw_g (lw_at lw_m5 238 rfl) rfl
theorem q1263 : (Jvm.Cond.methodLink "LampLeaseOfficeLaw" (59 : Nat) ({ cls := "LampLeaseOffice", name := "level", desc := "(I)I" } : Jvm.MethodName)) ∈ lw_all := lw_g (lw_at lw_m5 239 rfl) rfl
theorem q1268 : (Jvm.Cond.methodLink "LampLeaseOfficeLaw" (203 : Nat) ({ cls := "LampLeaseOfficeLaw", name := "isLeased", desc := "(LLampLeaseOffice;I[J)I" } : Jvm.MethodName)) ∈ lw_all := lw_g (lw_at lw_m6 4 rfl) rfl
theorem q1269 : (Jvm.Cond.static ({ cls := "LampLeaseOfficeLaw", name := "isLeased", desc := "(LLampLeaseOffice;I[J)I" } : Jvm.MethodName)) ∈ lw_all := lw_g (lw_at lw_m6 5 rfl) rfl
theorem q1270 : (Jvm.Cond.codeWith ({ cls := "LampLeaseOfficeLaw", name := "isLeased", desc := "(LLampLeaseOffice;I[J)I" } : Jvm.MethodName) method_16_code (4 : Nat) (Option.some Jvm.ClassFile.FieldType.int) [((0 : Nat), (16 : Nat), (19 : Nat), (28 : Nat))]) ∈ lw_all := lw_g (lw_at lw_m6 6 rfl) rfl
theorem q1271 : (Jvm.Cond.methodLink "LampLeaseOfficeLaw" (62 : Nat) ({ cls := "LampLeaseOffice", name := "isLeased", desc := "(I)Z" } : Jvm.MethodName)) ∈ lw_all := lw_g (lw_at lw_m6 7 rfl) rfl
theorem q1275 : (Jvm.Cond.methodLink "LampLeaseOfficeLaw" (206 : Nat) ({ cls := "LampLeaseOfficeLaw", name := "lessee", desc := "(LLampLeaseOffice;I[J)I" } : Jvm.MethodName)) ∈ lw_all := lw_g (lw_at lw_m6 11 rfl) rfl
theorem q1276 : (Jvm.Cond.static ({ cls := "LampLeaseOfficeLaw", name := "lessee", desc := "(LLampLeaseOffice;I[J)I" } : Jvm.MethodName)) ∈ lw_all := lw_g (lw_at lw_m6 12 rfl) rfl
theorem q1277 : (Jvm.Cond.codeWith ({ cls := "LampLeaseOfficeLaw", name := "lessee", desc := "(LLampLeaseOffice;I[J)I" } : Jvm.MethodName) method_17_code (4 : Nat) (Option.some Jvm.ClassFile.FieldType.int) [((0 : Nat), (9 : Nat), (12 : Nat), (28 : Nat)), ((0 : Nat), (9 : Nat), (15 : Nat), (36 : Nat))]) ∈ lw_all := lw_g (lw_at lw_m6 13 rfl) rfl
theorem q1278 : (Jvm.Cond.methodLink "LampLeaseOfficeLaw" (66 : Nat) ({ cls := "LampLeaseOffice", name := "lessee", desc := "(I)I" } : Jvm.MethodName)) ∈ lw_all := lw_g (lw_at lw_m6 14 rfl) rfl
theorem q1283 : (Jvm.Cond.methodLink "LampLeaseOfficeLaw" (209 : Nat) ({ cls := "LampLeaseOfficeLaw", name := "endHour", desc := "(LLampLeaseOffice;I[J)I" } : Jvm.MethodName)) ∈ lw_all := lw_g (lw_at lw_m6 19 rfl) rfl
theorem q1284 : (Jvm.Cond.static ({ cls := "LampLeaseOfficeLaw", name := "endHour", desc := "(LLampLeaseOffice;I[J)I" } : Jvm.MethodName)) ∈ lw_all := lw_g (lw_at lw_m6 20 rfl) rfl
theorem q1285 : (Jvm.Cond.codeWith ({ cls := "LampLeaseOfficeLaw", name := "endHour", desc := "(LLampLeaseOffice;I[J)I" } : Jvm.MethodName) method_18_code (4 : Nat) (Option.some Jvm.ClassFile.FieldType.int) [((0 : Nat), (9 : Nat), (12 : Nat), (28 : Nat)), ((0 : Nat), (9 : Nat), (15 : Nat), (36 : Nat))]) ∈ lw_all := lw_g (lw_at lw_m6 21 rfl) rfl
theorem q1286 : (Jvm.Cond.methodLink "LampLeaseOfficeLaw" (69 : Nat) ({ cls := "LampLeaseOffice", name := "endHour", desc := "(I)I" } : Jvm.MethodName)) ∈ lw_all := lw_g (lw_at lw_m6 22 rfl) rfl
theorem q1290 : (Jvm.Cond.methodLink "LampLeaseOfficeLaw" (212 : Nat) ({ cls := "LampLeaseOfficeLaw", name := "brightHours", desc := "(LLampLeaseOffice;I[J)I" } : Jvm.MethodName)) ∈ lw_all := lw_g (lw_at lw_m6 26 rfl) rfl
theorem q1291 : (Jvm.Cond.static ({ cls := "LampLeaseOfficeLaw", name := "brightHours", desc := "(LLampLeaseOffice;I[J)I" } : Jvm.MethodName)) ∈ lw_all := lw_g (lw_at lw_m6 27 rfl) rfl
theorem q1292 : (Jvm.Cond.codeWith ({ cls := "LampLeaseOfficeLaw", name := "brightHours", desc := "(LLampLeaseOffice;I[J)I" } : Jvm.MethodName) method_19_code (4 : Nat) (Option.some Jvm.ClassFile.FieldType.int) [((0 : Nat), (9 : Nat), (12 : Nat), (28 : Nat))]) ∈ lw_all := lw_g (lw_at lw_m6 28 rfl) rfl
theorem q1293 : (Jvm.Cond.methodLink "LampLeaseOfficeLaw" (72 : Nat) ({ cls := "LampLeaseOffice", name := "brightHours", desc := "(I)I" } : Jvm.MethodName)) ∈ lw_all := lw_g (lw_at lw_m6 29 rfl) rfl
theorem q1297 : (Jvm.Cond.methodLink "LampLeaseOfficeLaw" (215 : Nat) ({ cls := "LampLeaseOfficeLaw", name := "wasBright", desc := "(LLampLeaseOffice;I[J)I" } : Jvm.MethodName)) ∈ lw_all := lw_g (lw_at lw_m6 33 rfl) rfl
theorem q1298 : (Jvm.Cond.static ({ cls := "LampLeaseOfficeLaw", name := "wasBright", desc := "(LLampLeaseOffice;I[J)I" } : Jvm.MethodName)) ∈ lw_all := lw_g (lw_at lw_m6 34 rfl) rfl
theorem q1299 : (Jvm.Cond.codeWith ({ cls := "LampLeaseOfficeLaw", name := "wasBright", desc := "(LLampLeaseOffice;I[J)I" } : Jvm.MethodName) method_20_code (4 : Nat) (Option.some Jvm.ClassFile.FieldType.int) [((0 : Nat), (16 : Nat), (19 : Nat), (28 : Nat))]) ∈ lw_all := lw_g (lw_at lw_m6 35 rfl) rfl
theorem q1300 : (Jvm.Cond.methodLink "LampLeaseOfficeLaw" (75 : Nat) ({ cls := "LampLeaseOffice", name := "wasBright", desc := "(I)Z" } : Jvm.MethodName)) ∈ lw_all := lw_g (lw_at lw_m6 36 rfl) rfl
theorem q1304 : (Jvm.Cond.methodLink "LampLeaseOfficeLaw" (230 : Nat) ({ cls := "LampLeaseOfficeLaw", name := "hoursOfOil", desc := "(LLampLeaseOffice;[J)I" } : Jvm.MethodName)) ∈ lw_all := lw_g (lw_at lw_m6 40 rfl) rfl
theorem q1305 : (Jvm.Cond.static ({ cls := "LampLeaseOfficeLaw", name := "hoursOfOil", desc := "(LLampLeaseOffice;[J)I" } : Jvm.MethodName)) ∈ lw_all := lw_g (lw_at lw_m6 41 rfl) rfl
theorem q1306 : (Jvm.Cond.codeWith ({ cls := "LampLeaseOfficeLaw", name := "hoursOfOil", desc := "(LLampLeaseOffice;[J)I" } : Jvm.MethodName) method_21_code (3 : Nat) (Option.some Jvm.ClassFile.FieldType.int) [((0 : Nat), (8 : Nat), (11 : Nat), (36 : Nat))]) ∈ lw_all := lw_g (lw_at lw_m6 42 rfl) rfl
theorem q1307 : (Jvm.Cond.methodLink "LampLeaseOfficeLaw" (78 : Nat) ({ cls := "LampLeaseOffice", name := "hoursOfOil", desc := "()I" } : Jvm.MethodName)) ∈ lw_all := lw_g (lw_at lw_m6 43 rfl) rfl
theorem q1320 : (Jvm.Cond.methodLink "LampLeaseOfficeLaw" (233 : Nat) ({ cls := "LampLeaseOfficeLaw", name := "hoursOfOilByEnds", desc := "(LLampLeaseOffice;[J)I" } : Jvm.MethodName)) ∈ lw_all := lw_g (lw_at lw_m6 56 rfl) rfl
theorem q1321 : (Jvm.Cond.static ({ cls := "LampLeaseOfficeLaw", name := "hoursOfOilByEnds", desc := "(LLampLeaseOffice;[J)I" } : Jvm.MethodName)) ∈ lw_all := lw_g (lw_at lw_m6 57 rfl) rfl
theorem q1322 : (Jvm.Cond.codeWith ({ cls := "LampLeaseOfficeLaw", name := "hoursOfOilByEnds", desc := "(LLampLeaseOffice;[J)I" } : Jvm.MethodName) method_22_code (3 : Nat) (Option.some Jvm.ClassFile.FieldType.int) [((0 : Nat), (8 : Nat), (11 : Nat), (36 : Nat))]) ∈ lw_all := lw_g (lw_at lw_m6 58 rfl) rfl
theorem q1323 : (Jvm.Cond.methodLink "LampLeaseOfficeLaw" (81 : Nat) ({ cls := "LampLeaseOffice", name := "hoursOfOilByEnds", desc := "()I" } : Jvm.MethodName)) ∈ lw_all := lw_g (lw_at lw_m6 59 rfl) rfl
theorem q1339 : (Jvm.Cond.methodLink "LampLeaseOfficeLaw" (248 : Nat) ({ cls := "LampLeaseOfficeLaw", name := "share", desc := "(LLampLeaseOffice;I[J)I" } : Jvm.MethodName)) ∈ lw_all := lw_g (lw_at lw_m6 75 rfl) rfl
theorem q1340 : (Jvm.Cond.static ({ cls := "LampLeaseOfficeLaw", name := "share", desc := "(LLampLeaseOffice;I[J)I" } : Jvm.MethodName)) ∈ lw_all := lw_g (lw_at lw_m6 76 rfl) rfl
theorem q1341 : (Jvm.Cond.codeWith ({ cls := "LampLeaseOfficeLaw", name := "share", desc := "(LLampLeaseOffice;I[J)I" } : Jvm.MethodName) method_23_code (4 : Nat) (Option.some Jvm.ClassFile.FieldType.int) [((0 : Nat), (9 : Nat), (12 : Nat), (28 : Nat))]) ∈ lw_all := lw_g (lw_at lw_m6 77 rfl) rfl
theorem q1342 : (Jvm.Cond.methodLink "LampLeaseOfficeLaw" (84 : Nat) ({ cls := "LampLeaseOffice", name := "share", desc := "(I)I" } : Jvm.MethodName)) ∈ lw_all := lw_g (lw_at lw_m6 78 rfl) rfl
theorem q1346 : (Jvm.Cond.methodLink "LampLeaseOfficeLaw" (251 : Nat) ({ cls := "LampLeaseOfficeLaw", name := "shareByRank", desc := "(LLampLeaseOffice;I[J)I" } : Jvm.MethodName)) ∈ lw_all := lw_g (lw_at lw_m6 82 rfl) rfl
theorem q1347 : (Jvm.Cond.static ({ cls := "LampLeaseOfficeLaw", name := "shareByRank", desc := "(LLampLeaseOffice;I[J)I" } : Jvm.MethodName)) ∈ lw_all := lw_g (lw_at lw_m6 83 rfl) rfl
theorem q1348 : (Jvm.Cond.codeWith ({ cls := "LampLeaseOfficeLaw", name := "shareByRank", desc := "(LLampLeaseOffice;I[J)I" } : Jvm.MethodName) method_24_code (4 : Nat) (Option.some Jvm.ClassFile.FieldType.int) [((0 : Nat), (9 : Nat), (12 : Nat), (28 : Nat))]) ∈ lw_all := lw_g (lw_at lw_m6 84 rfl) rfl
theorem q1349 : (Jvm.Cond.methodLink "LampLeaseOfficeLaw" (87 : Nat) ({ cls := "LampLeaseOffice", name := "shareByRank", desc := "(I)I" } : Jvm.MethodName)) ∈ lw_all := lw_g (lw_at lw_m6 85 rfl) rfl
theorem q1353 : (Jvm.Cond.methodLink "LampLeaseOfficeLaw" (258 : Nat) ({ cls := "LampLeaseOfficeLaw", name := "requestedLamp", desc := "(LLampLeaseOffice;I[J)I" } : Jvm.MethodName)) ∈ lw_all := lw_g (lw_at lw_m6 89 rfl) rfl
theorem q1354 : (Jvm.Cond.static ({ cls := "LampLeaseOfficeLaw", name := "requestedLamp", desc := "(LLampLeaseOffice;I[J)I" } : Jvm.MethodName)) ∈ lw_all := lw_g (lw_at lw_m6 90 rfl) rfl
theorem q1355 : (Jvm.Cond.codeWith ({ cls := "LampLeaseOfficeLaw", name := "requestedLamp", desc := "(LLampLeaseOffice;I[J)I" } : Jvm.MethodName) method_25_code (4 : Nat) (Option.some Jvm.ClassFile.FieldType.int) [((0 : Nat), (9 : Nat), (12 : Nat), (36 : Nat))]) ∈ lw_all := lw_g (lw_at lw_m6 91 rfl) rfl
theorem q1356 : (Jvm.Cond.methodLink "LampLeaseOfficeLaw" (90 : Nat) ({ cls := "LampLeaseOffice", name := "requestedLamp", desc := "(I)I" } : Jvm.MethodName)) ∈ lw_all := lw_g (lw_at lw_m6 92 rfl) rfl
theorem q1365 : (Jvm.Cond.methodLink "LampLeaseOfficeLaw" (261 : Nat) ({ cls := "LampLeaseOfficeLaw", name := "requestedHours", desc := "(LLampLeaseOffice;I[J)I" } : Jvm.MethodName)) ∈ lw_all := lw_g (lw_at lw_m6 101 rfl) rfl
theorem q1366 : (Jvm.Cond.static ({ cls := "LampLeaseOfficeLaw", name := "requestedHours", desc := "(LLampLeaseOffice;I[J)I" } : Jvm.MethodName)) ∈ lw_all := lw_g (lw_at lw_m6 102 rfl) rfl
theorem q1367 : (Jvm.Cond.codeWith ({ cls := "LampLeaseOfficeLaw", name := "requestedHours", desc := "(LLampLeaseOffice;I[J)I" } : Jvm.MethodName) method_26_code (4 : Nat) (Option.some Jvm.ClassFile.FieldType.int) [((0 : Nat), (9 : Nat), (12 : Nat), (36 : Nat))]) ∈ lw_all := lw_g (lw_at lw_m6 103 rfl) rfl
theorem q1368 : (Jvm.Cond.methodLink "LampLeaseOfficeLaw" (93 : Nat) ({ cls := "LampLeaseOffice", name := "requestedHours", desc := "(I)I" } : Jvm.MethodName)) ∈ lw_all := lw_g (lw_at lw_m6 104 rfl) rfl
theorem q1372 : (Jvm.Cond.methodLink "LampLeaseOfficeLaw" (272 : Nat) ({ cls := "LampLeaseOfficeLaw", name := "shipByFines", desc := "(LLampLeaseOffice;I[J)I" } : Jvm.MethodName)) ∈ lw_all := lw_g (lw_at lw_m6 108 rfl) rfl
theorem q1373 : (Jvm.Cond.static ({ cls := "LampLeaseOfficeLaw", name := "shipByFines", desc := "(LLampLeaseOffice;I[J)I" } : Jvm.MethodName)) ∈ lw_all := lw_g (lw_at lw_m6 109 rfl) rfl
theorem q1374 : (Jvm.Cond.codeWith ({ cls := "LampLeaseOfficeLaw", name := "shipByFines", desc := "(LLampLeaseOffice;I[J)I" } : Jvm.MethodName) method_27_code (4 : Nat) (Option.some Jvm.ClassFile.FieldType.int) [((0 : Nat), (9 : Nat), (12 : Nat), (36 : Nat))]) ∈ lw_all := lw_g (lw_at lw_m6 110 rfl) rfl
theorem q1375 : (Jvm.Cond.methodLink "LampLeaseOfficeLaw" (96 : Nat) ({ cls := "LampLeaseOffice", name := "shipByFines", desc := "(I)I" } : Jvm.MethodName)) ∈ lw_all := lw_g (lw_at lw_m6 111 rfl) rfl
theorem q1383 : (Jvm.Cond.methodLink "LampLeaseOfficeLaw" (275 : Nat) ({ cls := "LampLeaseOfficeLaw", name := "lampByEnd", desc := "(LLampLeaseOffice;I[J)I" } : Jvm.MethodName)) ∈ lw_all := lw_g (lw_at lw_m6 119 rfl) rfl
theorem q1384 : (Jvm.Cond.static ({ cls := "LampLeaseOfficeLaw", name := "lampByEnd", desc := "(LLampLeaseOffice;I[J)I" } : Jvm.MethodName)) ∈ lw_all := lw_g (lw_at lw_m6 120 rfl) rfl
theorem q1385 : (Jvm.Cond.codeWith ({ cls := "LampLeaseOfficeLaw", name := "lampByEnd", desc := "(LLampLeaseOffice;I[J)I" } : Jvm.MethodName) method_28_code (4 : Nat) (Option.some Jvm.ClassFile.FieldType.int) [((0 : Nat), (9 : Nat), (12 : Nat), (36 : Nat))]) ∈ lw_all := lw_g (lw_at lw_m6 121 rfl) rfl
theorem q1386 : (Jvm.Cond.methodLink "LampLeaseOfficeLaw" (99 : Nat) ({ cls := "LampLeaseOffice", name := "lampByEnd", desc := "(I)I" } : Jvm.MethodName)) ∈ lw_all := lw_g (lw_at lw_m6 122 rfl) rfl
theorem q1394 : (Jvm.Cond.methodLink "LampLeaseOfficeLaw" (278 : Nat) ({ cls := "LampLeaseOfficeLaw", name := "meanCoins", desc := "(LLampLeaseOffice;[D)I" } : Jvm.MethodName)) ∈ lw_all := lw_g (lw_at lw_m6 130 rfl) rfl
theorem q1395 : (Jvm.Cond.static ({ cls := "LampLeaseOfficeLaw", name := "meanCoins", desc := "(LLampLeaseOffice;[D)I" } : Jvm.MethodName)) ∈ lw_all := lw_g (lw_at lw_m6 131 rfl) rfl
theorem q1396 : (Jvm.Cond.codeWith ({ cls := "LampLeaseOfficeLaw", name := "meanCoins", desc := "(LLampLeaseOffice;[D)I" } : Jvm.MethodName) method_29_code (3 : Nat) (Option.some Jvm.ClassFile.FieldType.int) [((0 : Nat), (7 : Nat), (10 : Nat), (106 : Nat))]) ∈ lw_all := lw_g (lw_at lw_m6 132 rfl) rfl
theorem q1397 : (Jvm.Cond.classLink "LampLeaseOfficeLaw" (106 : Nat) "java/lang/ArithmeticException") ∈ lw_all := lw_g (lw_at lw_m6 133 rfl) rfl
theorem q1411 : (Jvm.Cond.methodLink "LampLeaseOfficeLaw" (102 : Nat) ({ cls := "LampLeaseOffice", name := "meanCoins", desc := "()D" } : Jvm.MethodName)) ∈ lw_all := lw_g (lw_at lw_m6 147 rfl) rfl
theorem q1423 : (Jvm.Cond.methodLink "LampLeaseOfficeLaw" (282 : Nat) ({ cls := "LampLeaseOfficeLaw", name := "leasedShare", desc := "(LLampLeaseOffice;[D)I" } : Jvm.MethodName)) ∈ lw_all := lw_g (lw_at lw_m6 159 rfl) rfl
theorem q1424 : (Jvm.Cond.static ({ cls := "LampLeaseOfficeLaw", name := "leasedShare", desc := "(LLampLeaseOffice;[D)I" } : Jvm.MethodName)) ∈ lw_all := lw_g (lw_at lw_m6 160 rfl) rfl
theorem q1425 : (Jvm.Cond.codeWith ({ cls := "LampLeaseOfficeLaw", name := "leasedShare", desc := "(LLampLeaseOffice;[D)I" } : Jvm.MethodName) method_30_code (3 : Nat) (Option.some Jvm.ClassFile.FieldType.int) [((0 : Nat), (8 : Nat), (11 : Nat), (106 : Nat))]) ∈ lw_all := lw_g (lw_at lw_m6 161 rfl) rfl
theorem q1426 : (Jvm.Cond.methodLink "LampLeaseOfficeLaw" (108 : Nat) ({ cls := "LampLeaseOffice", name := "leasedShare", desc := "()F" } : Jvm.MethodName)) ∈ lw_all := lw_g (lw_at lw_m6 162 rfl) rfl
theorem q1430 : (Jvm.Cond.methodLink "LampLeaseOfficeLaw" (290 : Nat) ({ cls := "LampLeaseOfficeLaw", name := "feed", desc := "(LLampLeaseOffice;C[J)I" } : Jvm.MethodName)) ∈ lw_all := lw_g (lw_at lw_m6 166 rfl) rfl
theorem q1431 : (Jvm.Cond.static ({ cls := "LampLeaseOfficeLaw", name := "feed", desc := "(LLampLeaseOffice;C[J)I" } : Jvm.MethodName)) ∈ lw_all := lw_g (lw_at lw_m6 167 rfl) rfl
theorem q1432 : (Jvm.Cond.codeWith ({ cls := "LampLeaseOfficeLaw", name := "feed", desc := "(LLampLeaseOffice;C[J)I" } : Jvm.MethodName) method_31_code (4 : Nat) (Option.some Jvm.ClassFile.FieldType.int) [((0 : Nat), (9 : Nat), (12 : Nat), (13 : Nat))]) ∈ lw_all := lw_g (lw_at lw_m6 168 rfl) rfl
theorem q1433 : (Jvm.Cond.methodLink "LampLeaseOfficeLaw" (112 : Nat) ({ cls := "LampLeaseOffice", name := "feed", desc := "(C)I" } : Jvm.MethodName)) ∈ lw_all := lw_g (lw_at lw_m6 169 rfl) rfl
theorem q1438 : (Jvm.Cond.methodLink "LampLeaseOfficeLaw" (294 : Nat) ({ cls := "LampLeaseOfficeLaw", name := "runCommands", desc := "(LLampLeaseOffice;[J)I" } : Jvm.MethodName)) ∈ lw_all := lw_g (lw_at lw_m6 174 rfl) rfl
theorem q1439 : (Jvm.Cond.static ({ cls := "LampLeaseOfficeLaw", name := "runCommands", desc := "(LLampLeaseOffice;[J)I" } : Jvm.MethodName)) ∈ lw_all := lw_g (lw_at lw_m6 175 rfl) rfl
theorem q1440 : (Jvm.Cond.codeWith ({ cls := "LampLeaseOfficeLaw", name := "runCommands", desc := "(LLampLeaseOffice;[J)I" } : Jvm.MethodName) method_32_code (3 : Nat) (Option.some Jvm.ClassFile.FieldType.int) [((0 : Nat), (8 : Nat), (11 : Nat), (19 : Nat)), ((0 : Nat), (8 : Nat), (14 : Nat), (30 : Nat))]) ∈ lw_all := lw_g (lw_at lw_m6 176 rfl) rfl
theorem q1441 : (Jvm.Cond.methodLink "LampLeaseOfficeLaw" (116 : Nat) ({ cls := "LampLeaseOffice", name := "runCommands", desc := "()I" } : Jvm.MethodName)) ∈ lw_all := lw_g (lw_at lw_m6 177 rfl) rfl
theorem q1674 : (Jvm.Cond.methodLink "LampLeaseOfficeLaw" (297 : Nat) ({ cls := "LampLeaseOfficeLaw", name := "errorPosition", desc := "(LLampLeaseOffice;[J)I" } : Jvm.MethodName)) ∈ lw_all := lw_g (lw_at lw_m7 170 rfl) rfl
theorem q1675 : (Jvm.Cond.static ({ cls := "LampLeaseOfficeLaw", name := "errorPosition", desc := "(LLampLeaseOffice;[J)I" } : Jvm.MethodName)) ∈ lw_all := lw_g (lw_at lw_m7 171 rfl) rfl
theorem q1676 : (Jvm.Cond.codeWith ({ cls := "LampLeaseOfficeLaw", name := "errorPosition", desc := "(LLampLeaseOffice;[J)I" } : Jvm.MethodName) method_33_code (3 : Nat) (Option.some Jvm.ClassFile.FieldType.int) [((0 : Nat), (8 : Nat), (11 : Nat), (36 : Nat))]) ∈ lw_all := lw_g (lw_at lw_m7 172 rfl) rfl
theorem q1677 : (Jvm.Cond.methodLink "LampLeaseOfficeLaw" (119 : Nat) ({ cls := "LampLeaseOffice", name := "errorPosition", desc := "()I" } : Jvm.MethodName)) ∈ lw_all := lw_g (lw_at lw_m7 173 rfl) rfl
theorem q1681 : (Jvm.Cond.methodLink "LampLeaseOfficeLaw" (300 : Nat) ({ cls := "LampLeaseOfficeLaw", name := "failedCommand", desc := "(LLampLeaseOffice;[J)I" } : Jvm.MethodName)) ∈ lw_all := lw_g (lw_at lw_m7 177 rfl) rfl
theorem q1682 : (Jvm.Cond.static ({ cls := "LampLeaseOfficeLaw", name := "failedCommand", desc := "(LLampLeaseOffice;[J)I" } : Jvm.MethodName)) ∈ lw_all := lw_g (lw_at lw_m7 178 rfl) rfl
theorem q1683 : (Jvm.Cond.codeWith ({ cls := "LampLeaseOfficeLaw", name := "failedCommand", desc := "(LLampLeaseOffice;[J)I" } : Jvm.MethodName) method_34_code (3 : Nat) (Option.some Jvm.ClassFile.FieldType.int) [((0 : Nat), (8 : Nat), (11 : Nat), (36 : Nat))]) ∈ lw_all := lw_g (lw_at lw_m7 179 rfl) rfl
theorem q1684 : (Jvm.Cond.methodLink "LampLeaseOfficeLaw" (122 : Nat) ({ cls := "LampLeaseOffice", name := "failedCommand", desc := "()I" } : Jvm.MethodName)) ∈ lw_all := lw_g (lw_at lw_m7 180 rfl) rfl
theorem q1688 : (Jvm.Cond.methodLink "LampLeaseOfficeLaw" (303 : Nat) ({ cls := "LampLeaseOfficeLaw", name := "failureReason", desc := "(LLampLeaseOffice;[J)I" } : Jvm.MethodName)) ∈ lw_all := lw_g (lw_at lw_m7 184 rfl) rfl
theorem q1689 : (Jvm.Cond.static ({ cls := "LampLeaseOfficeLaw", name := "failureReason", desc := "(LLampLeaseOffice;[J)I" } : Jvm.MethodName)) ∈ lw_all := lw_g (lw_at lw_m7 185 rfl) rfl
theorem q1690 : (Jvm.Cond.codeWith ({ cls := "LampLeaseOfficeLaw", name := "failureReason", desc := "(LLampLeaseOffice;[J)I" } : Jvm.MethodName) method_35_code (3 : Nat) (Option.some Jvm.ClassFile.FieldType.int) [((0 : Nat), (8 : Nat), (11 : Nat), (36 : Nat))]) ∈ lw_all := lw_g (lw_at lw_m7 186 rfl) rfl
theorem q1691 : (Jvm.Cond.methodLink "LampLeaseOfficeLaw" (125 : Nat) ({ cls := "LampLeaseOffice", name := "failureReason", desc := "()C" } : Jvm.MethodName)) ∈ lw_all := lw_g (lw_at lw_m7 187 rfl) rfl
theorem q1695 : (Jvm.Cond.methodLink "LampLeaseOfficeLaw" (310 : Nat) ({ cls := "LampLeaseOfficeLaw", name := "outputChar", desc := "(LLampLeaseOffice;I[J)I" } : Jvm.MethodName)) ∈ lw_all := lw_g (lw_at lw_m7 191 rfl) rfl
theorem q1696 : (Jvm.Cond.static ({ cls := "LampLeaseOfficeLaw", name := "outputChar", desc := "(LLampLeaseOffice;I[J)I" } : Jvm.MethodName)) ∈ lw_all := lw_g (lw_at lw_m7 192 rfl) rfl
theorem q1697 : (Jvm.Cond.codeWith ({ cls := "LampLeaseOfficeLaw", name := "outputChar", desc := "(LLampLeaseOffice;I[J)I" } : Jvm.MethodName) method_36_code (4 : Nat) (Option.some Jvm.ClassFile.FieldType.int) [((0 : Nat), (9 : Nat), (12 : Nat), (28 : Nat))]) ∈ lw_all := lw_g (lw_at lw_m7 193 rfl) rfl
theorem q1698 : (Jvm.Cond.methodLink "LampLeaseOfficeLaw" (129 : Nat) ({ cls := "LampLeaseOffice", name := "outputChar", desc := "(I)C" } : Jvm.MethodName)) ∈ lw_all := lw_g (lw_at lw_m7 194 rfl) rfl
theorem q1713 : (Jvm.Cond.methodLink "LampLeaseOfficeLaw" (317 : Nat) ({ cls := "LampLeaseOfficeLaw", name := "undo", desc := "(LLampLeaseOffice;[J)I" } : Jvm.MethodName)) ∈ lw_all := lw_g (lw_at lw_m7 209 rfl) rfl
theorem q1714 : (Jvm.Cond.static ({ cls := "LampLeaseOfficeLaw", name := "undo", desc := "(LLampLeaseOffice;[J)I" } : Jvm.MethodName)) ∈ lw_all := lw_g (lw_at lw_m7 210 rfl) rfl
theorem q1715 : (Jvm.Cond.codeWith ({ cls := "LampLeaseOfficeLaw", name := "undo", desc := "(LLampLeaseOffice;[J)I" } : Jvm.MethodName) method_37_code (3 : Nat) (Option.some Jvm.ClassFile.FieldType.int) [((0 : Nat), (8 : Nat), (11 : Nat), (13 : Nat))]) ∈ lw_all := lw_g (lw_at lw_m7 211 rfl) rfl
theorem q1716 : (Jvm.Cond.methodLink "LampLeaseOfficeLaw" (133 : Nat) ({ cls := "LampLeaseOffice", name := "undo", desc := "()I" } : Jvm.MethodName)) ∈ lw_all := lw_g (lw_at lw_m7 212 rfl) rfl
theorem q1724 : (Jvm.Cond.methodLink "LampLeaseOfficeLaw" (324 : Nat) ({ cls := "LampLeaseOfficeLaw", name := "restore", desc := "(LLampLeaseOffice;[J)I" } : Jvm.MethodName)) ∈ lw_all := lw_g (lw_at lw_m7 220 rfl) rfl
theorem q1725 : (Jvm.Cond.static ({ cls := "LampLeaseOfficeLaw", name := "restore", desc := "(LLampLeaseOffice;[J)I" } : Jvm.MethodName)) ∈ lw_all := lw_g (lw_at lw_m7 221 rfl) rfl
theorem q1726 : (Jvm.Cond.codeWith ({ cls := "LampLeaseOfficeLaw", name := "restore", desc := "(LLampLeaseOffice;[J)I" } : Jvm.MethodName) method_38_code (3 : Nat) (Option.some Jvm.ClassFile.FieldType.int) [((0 : Nat), (8 : Nat), (11 : Nat), (13 : Nat))]) ∈ lw_all := lw_g (lw_at lw_m7 222 rfl) rfl
theorem q1727 : (Jvm.Cond.methodLink "LampLeaseOfficeLaw" (136 : Nat) ({ cls := "LampLeaseOffice", name := "restore", desc := "()I" } : Jvm.MethodName)) ∈ lw_all := lw_g (lw_at lw_m7 223 rfl) rfl
theorem q1732 : (Jvm.Cond.classLink "LampLeaseOfficeLaw" (140 : Nat) "LampLeaseOfficeModel") ∈ lw_all := lw_g (lw_at lw_m7 228 rfl) rfl
theorem q1734 : (Jvm.Cond.methodLink "LampLeaseOfficeLaw" (142 : Nat) ({ cls := "LampLeaseOfficeModel", name := "<init>", desc := "()V" } : Jvm.MethodName)) ∈ lw_all := lw_g (lw_at lw_m7 230 rfl) rfl
theorem q1796 : (Jvm.Cond.methodLink "LampLeaseOfficeLaw" (149 : Nat) ({ cls := "LampLeaseOfficeModel", name := "thrown", desc := "()I" } : Jvm.MethodName)) ∈ lw_all := lw_g (lw_at lw_m8 52 rfl) rfl
theorem q1800 : (Jvm.Cond.methodLink "LampLeaseOfficeLaw" (148 : Nat) ({ cls := "LampLeaseOfficeModel", name := "addShip", desc := "()I" } : Jvm.MethodName)) ∈ lw_all := lw_g (lw_at lw_m8 56 rfl) rfl
theorem q1821 : (Jvm.Cond.methodLink "LampLeaseOfficeLaw" (155 : Nat) ({ cls := "LampLeaseOfficeModel", name := "addLamp", desc := "(I)I" } : Jvm.MethodName)) ∈ lw_all := lw_g (lw_at lw_m8 77 rfl) rfl
theorem q1836 : (Jvm.Cond.methodLink "LampLeaseOfficeLaw" (158 : Nat) ({ cls := "LampLeaseOfficeModel", name := "addOil", desc := "(I)I" } : Jvm.MethodName)) ∈ lw_all := lw_g (lw_at lw_m8 92 rfl) rfl
theorem q1844 : (Jvm.Cond.methodLink "LampLeaseOfficeLaw" (162 : Nat) ({ cls := "LampLeaseOfficeModel", name := "lease", desc := "(III)I" } : Jvm.MethodName)) ∈ lw_all := lw_g (lw_at lw_m8 100 rfl) rfl
theorem q1876 : (Jvm.Cond.methodLink "LampLeaseOfficeLaw" (166 : Nat) ({ cls := "LampLeaseOfficeModel", name := "requestRenewal", desc := "(II)I" } : Jvm.MethodName)) ∈ lw_all := lw_g (lw_at lw_m8 132 rfl) rfl
theorem q1888 : (Jvm.Cond.methodLink "LampLeaseOfficeLaw" (169 : Nat) ({ cls := "LampLeaseOfficeModel", name := "giveUp", desc := "(I)I" } : Jvm.MethodName)) ∈ lw_all := lw_g (lw_at lw_m8 144 rfl) rfl
theorem q1900 : (Jvm.Cond.methodLink "LampLeaseOfficeLaw" (172 : Nat) ({ cls := "LampLeaseOfficeModel", name := "passHours", desc := "(I)I" } : Jvm.MethodName)) ∈ lw_all := lw_g (lw_at lw_m8 156 rfl) rfl
theorem q1929 : (Jvm.Cond.methodLink "LampLeaseOfficeLaw" (176 : Nat) ({ cls := "LampLeaseOfficeModel", name := "hour", desc := "()I" } : Jvm.MethodName)) ∈ lw_all := lw_g (lw_at lw_m8 185 rfl) rfl
theorem q1933 : (Jvm.Cond.methodLink "LampLeaseOfficeLaw" (180 : Nat) ({ cls := "LampLeaseOfficeModel", name := "shipCount", desc := "()I" } : Jvm.MethodName)) ∈ lw_all := lw_g (lw_at lw_m8 189 rfl) rfl
theorem q1937 : (Jvm.Cond.methodLink "LampLeaseOfficeLaw" (183 : Nat) ({ cls := "LampLeaseOfficeModel", name := "coins", desc := "(I)I" } : Jvm.MethodName)) ∈ lw_all := lw_g (lw_at lw_m8 193 rfl) rfl
theorem q1945 : (Jvm.Cond.methodLink "LampLeaseOfficeLaw" (186 : Nat) ({ cls := "LampLeaseOfficeModel", name := "finesPaid", desc := "(I)I" } : Jvm.MethodName)) ∈ lw_all := lw_g (lw_at lw_m8 201 rfl) rfl
theorem q1949 : (Jvm.Cond.methodLink "LampLeaseOfficeLaw" (189 : Nat) ({ cls := "LampLeaseOfficeModel", name := "darkHours", desc := "(I)I" } : Jvm.MethodName)) ∈ lw_all := lw_g (lw_at lw_m8 205 rfl) rfl
theorem q1953 : (Jvm.Cond.methodLink "LampLeaseOfficeLaw" (192 : Nat) ({ cls := "LampLeaseOfficeModel", name := "demand", desc := "(I)I" } : Jvm.MethodName)) ∈ lw_all := lw_g (lw_at lw_m8 209 rfl) rfl
theorem q1961 : (Jvm.Cond.methodLink "LampLeaseOfficeLaw" (195 : Nat) ({ cls := "LampLeaseOfficeModel", name := "leasesOf", desc := "(I)I" } : Jvm.MethodName)) ∈ lw_all := lw_g (lw_at lw_m8 217 rfl) rfl
theorem q1965 : (Jvm.Cond.methodLink "LampLeaseOfficeLaw" (199 : Nat) ({ cls := "LampLeaseOfficeModel", name := "lampCount", desc := "()I" } : Jvm.MethodName)) ∈ lw_all := lw_g (lw_at lw_m8 221 rfl) rfl
theorem q1969 : (Jvm.Cond.methodLink "LampLeaseOfficeLaw" (202 : Nat) ({ cls := "LampLeaseOfficeModel", name := "level", desc := "(I)I" } : Jvm.MethodName)) ∈ lw_all := lw_g (lw_at lw_m8 225 rfl) rfl
theorem q1973 : (Jvm.Cond.methodLink "LampLeaseOfficeLaw" (205 : Nat) ({ cls := "LampLeaseOfficeModel", name := "isLeased", desc := "(I)Z" } : Jvm.MethodName)) ∈ lw_all := lw_g (lw_at lw_m8 229 rfl) rfl
theorem q1977 : (Jvm.Cond.methodLink "LampLeaseOfficeLaw" (208 : Nat) ({ cls := "LampLeaseOfficeModel", name := "lessee", desc := "(I)I" } : Jvm.MethodName)) ∈ lw_all := lw_g (lw_at lw_m8 233 rfl) rfl
theorem q1981 : (Jvm.Cond.methodLink "LampLeaseOfficeLaw" (211 : Nat) ({ cls := "LampLeaseOfficeModel", name := "endHour", desc := "(I)I" } : Jvm.MethodName)) ∈ lw_all := lw_g (lw_at lw_m8 237 rfl) rfl
theorem q1985 : (Jvm.Cond.methodLink "LampLeaseOfficeLaw" (214 : Nat) ({ cls := "LampLeaseOfficeModel", name := "brightHours", desc := "(I)I" } : Jvm.MethodName)) ∈ lw_all := lw_g (lw_at lw_m9 1 rfl) rfl
theorem q1989 : (Jvm.Cond.methodLink "LampLeaseOfficeLaw" (217 : Nat) ({ cls := "LampLeaseOfficeModel", name := "wasBright", desc := "(I)Z" } : Jvm.MethodName)) ∈ lw_all := lw_g (lw_at lw_m9 5 rfl) rfl
theorem q1993 : (Jvm.Cond.methodLink "LampLeaseOfficeLaw" (221 : Nat) ({ cls := "LampLeaseOfficeModel", name := "leasedLamps", desc := "()I" } : Jvm.MethodName)) ∈ lw_all := lw_g (lw_at lw_m9 9 rfl) rfl
theorem q2001 : (Jvm.Cond.methodLink "LampLeaseOfficeLaw" (225 : Nat) ({ cls := "LampLeaseOfficeModel", name := "oil", desc := "()I" } : Jvm.MethodName)) ∈ lw_all := lw_g (lw_at lw_m9 17 rfl) rfl
theorem q2005 : (Jvm.Cond.methodLink "LampLeaseOfficeLaw" (229 : Nat) ({ cls := "LampLeaseOfficeModel", name := "consumption", desc := "()I" } : Jvm.MethodName)) ∈ lw_all := lw_g (lw_at lw_m9 21 rfl) rfl
theorem q2013 : (Jvm.Cond.methodLink "LampLeaseOfficeLaw" (232 : Nat) ({ cls := "LampLeaseOfficeModel", name := "hoursOfOil", desc := "()I" } : Jvm.MethodName)) ∈ lw_all := lw_g (lw_at lw_m9 29 rfl) rfl
theorem q2017 : (Jvm.Cond.methodLink "LampLeaseOfficeLaw" (235 : Nat) ({ cls := "LampLeaseOfficeModel", name := "hoursOfOilByEnds", desc := "()I" } : Jvm.MethodName)) ∈ lw_all := lw_g (lw_at lw_m9 33 rfl) rfl
theorem q2022 : (Jvm.Cond.methodLink "LampLeaseOfficeLaw" (239 : Nat) ({ cls := "LampLeaseOfficeModel", name := "brightNext", desc := "()I" } : Jvm.MethodName)) ∈ lw_all := lw_g (lw_at lw_m9 38 rfl) rfl
theorem q2026 : (Jvm.Cond.methodLink "LampLeaseOfficeLaw" (243 : Nat) ({ cls := "LampLeaseOfficeModel", name := "mostBright", desc := "()I" } : Jvm.MethodName)) ∈ lw_all := lw_g (lw_at lw_m9 42 rfl) rfl
theorem q2030 : (Jvm.Cond.methodLink "LampLeaseOfficeLaw" (247 : Nat) ({ cls := "LampLeaseOfficeModel", name := "mostBrightBySums", desc := "()I" } : Jvm.MethodName)) ∈ lw_all := lw_g (lw_at lw_m9 46 rfl) rfl
theorem q2035 : (Jvm.Cond.methodLink "LampLeaseOfficeLaw" (250 : Nat) ({ cls := "LampLeaseOfficeModel", name := "share", desc := "(I)I" } : Jvm.MethodName)) ∈ lw_all := lw_g (lw_at lw_m9 51 rfl) rfl
theorem q2043 : (Jvm.Cond.methodLink "LampLeaseOfficeLaw" (253 : Nat) ({ cls := "LampLeaseOfficeModel", name := "shareByRank", desc := "(I)I" } : Jvm.MethodName)) ∈ lw_all := lw_g (lw_at lw_m9 59 rfl) rfl
theorem q2048 : (Jvm.Cond.methodLink "LampLeaseOfficeLaw" (257 : Nat) ({ cls := "LampLeaseOfficeModel", name := "requestCount", desc := "()I" } : Jvm.MethodName)) ∈ lw_all := lw_g (lw_at lw_m9 64 rfl) rfl
theorem q2052 : (Jvm.Cond.methodLink "LampLeaseOfficeLaw" (260 : Nat) ({ cls := "LampLeaseOfficeModel", name := "requestedLamp", desc := "(I)I" } : Jvm.MethodName)) ∈ lw_all := lw_g (lw_at lw_m9 68 rfl) rfl
theorem q2060 : (Jvm.Cond.methodLink "LampLeaseOfficeLaw" (263 : Nat) ({ cls := "LampLeaseOfficeModel", name := "requestedHours", desc := "(I)I" } : Jvm.MethodName)) ∈ lw_all := lw_g (lw_at lw_m9 76 rfl) rfl
theorem q2064 : (Jvm.Cond.methodLink "LampLeaseOfficeLaw" (267 : Nat) ({ cls := "LampLeaseOfficeModel", name := "refusedRenewals", desc := "()I" } : Jvm.MethodName)) ∈ lw_all := lw_g (lw_at lw_m9 80 rfl) rfl
theorem q2068 : (Jvm.Cond.methodLink "LampLeaseOfficeLaw" (271 : Nat) ({ cls := "LampLeaseOfficeModel", name := "officeCoins", desc := "()I" } : Jvm.MethodName)) ∈ lw_all := lw_g (lw_at lw_m9 84 rfl) rfl
theorem q2072 : (Jvm.Cond.methodLink "LampLeaseOfficeLaw" (274 : Nat) ({ cls := "LampLeaseOfficeModel", name := "shipByFines", desc := "(I)I" } : Jvm.MethodName)) ∈ lw_all := lw_g (lw_at lw_m9 88 rfl) rfl
theorem q2076 : (Jvm.Cond.methodLink "LampLeaseOfficeLaw" (277 : Nat) ({ cls := "LampLeaseOfficeModel", name := "lampByEnd", desc := "(I)I" } : Jvm.MethodName)) ∈ lw_all := lw_g (lw_at lw_m9 92 rfl) rfl
theorem q2080 : (Jvm.Cond.methodLink "LampLeaseOfficeLaw" (281 : Nat) ({ cls := "LampLeaseOfficeModel", name := "meanCoins", desc := "()D" } : Jvm.MethodName)) ∈ lw_all := lw_g (lw_at lw_m9 96 rfl) rfl
theorem q2084 : (Jvm.Cond.methodLink "LampLeaseOfficeLaw" (284 : Nat) ({ cls := "LampLeaseOfficeModel", name := "leasedShare", desc := "()F" } : Jvm.MethodName)) ∈ lw_all := lw_g (lw_at lw_m9 100 rfl) rfl
theorem q2088 : (Jvm.Cond.methodLink "LampLeaseOfficeLaw" (289 : Nat) ({ cls := "LampLeaseOfficeModel", name := "isConsistent", desc := "()Z" } : Jvm.MethodName)) ∈ lw_all := lw_g (lw_at lw_m9 104 rfl) rfl
theorem q2092 : (Jvm.Cond.methodLink "LampLeaseOfficeLaw" (309 : Nat) ({ cls := "LampLeaseOfficeModel", name := "writeLamps", desc := "()I" } : Jvm.MethodName)) ∈ lw_all := lw_g (lw_at lw_m9 108 rfl) rfl
theorem q2104 : (Jvm.Cond.methodLink "LampLeaseOfficeLaw" (312 : Nat) ({ cls := "LampLeaseOfficeModel", name := "outputChar", desc := "(I)C" } : Jvm.MethodName)) ∈ lw_all := lw_g (lw_at lw_m9 120 rfl) rfl
theorem q2108 : (Jvm.Cond.methodLink "LampLeaseOfficeLaw" (293 : Nat) ({ cls := "LampLeaseOfficeModel", name := "feed", desc := "(C)I" } : Jvm.MethodName)) ∈ lw_all := lw_g (lw_at lw_m9 124 rfl) rfl
theorem q2112 : (Jvm.Cond.methodLink "LampLeaseOfficeLaw" (296 : Nat) ({ cls := "LampLeaseOfficeModel", name := "runCommands", desc := "()I" } : Jvm.MethodName)) ∈ lw_all := lw_g (lw_at lw_m9 128 rfl) rfl
theorem q2156 : (Jvm.Cond.methodLink "LampLeaseOfficeLaw" (299 : Nat) ({ cls := "LampLeaseOfficeModel", name := "errorPosition", desc := "()I" } : Jvm.MethodName)) ∈ lw_all := lw_g (lw_at lw_m9 172 rfl) rfl
theorem q2160 : (Jvm.Cond.methodLink "LampLeaseOfficeLaw" (302 : Nat) ({ cls := "LampLeaseOfficeModel", name := "failedCommand", desc := "()I" } : Jvm.MethodName)) ∈ lw_all := lw_g (lw_at lw_m9 176 rfl) rfl
theorem q2164 : (Jvm.Cond.methodLink "LampLeaseOfficeLaw" (305 : Nat) ({ cls := "LampLeaseOfficeModel", name := "failureReason", desc := "()C" } : Jvm.MethodName)) ∈ lw_all := lw_g (lw_at lw_m9 180 rfl) rfl
theorem q2168 : (Jvm.Cond.methodLink "LampLeaseOfficeLaw" (316 : Nat) ({ cls := "LampLeaseOfficeModel", name := "undoCount", desc := "()I" } : Jvm.MethodName)) ∈ lw_all := lw_g (lw_at lw_m9 184 rfl) rfl
theorem q2172 : (Jvm.Cond.methodLink "LampLeaseOfficeLaw" (319 : Nat) ({ cls := "LampLeaseOfficeModel", name := "undo", desc := "()I" } : Jvm.MethodName)) ∈ lw_all := lw_g (lw_at lw_m9 188 rfl) rfl
theorem q2176 : (Jvm.Cond.methodLink "LampLeaseOfficeLaw" (323 : Nat) ({ cls := "LampLeaseOfficeModel", name := "save", desc := "()I" } : Jvm.MethodName)) ∈ lw_all := lw_g (lw_at lw_m9 192 rfl) rfl
theorem q2180 : (Jvm.Cond.methodLink "LampLeaseOfficeLaw" (326 : Nat) ({ cls := "LampLeaseOfficeModel", name := "restore", desc := "()I" } : Jvm.MethodName)) ∈ lw_all := lw_g (lw_at lw_m9 196 rfl) rfl
theorem q65 : (Jvm.Cond.initialized "LampLeaseOffice") ∈ lw_all := lw_g (lw_at lw_m1 1 rfl) rfl
theorem q105 : (Jvm.Cond.instantiable "LampLeaseOffice" (9 : Nat)) ∈ lw_all := lw_g (lw_at lw_m1 41 rfl) rfl
theorem q107 : (Jvm.Cond.instanceMethod ({ cls := "LampLeaseOffice", name := "<init>", desc := "()V" } : Jvm.MethodName)) ∈ lw_all := lw_g (lw_at lw_m1 43 rfl) rfl
theorem q108 : (Jvm.Cond.code ({ cls := "LampLeaseOffice", name := "<init>", desc := "()V" } : Jvm.MethodName) prog_1_method_1_code (1 : Nat) (Option.none : Option Jvm.ClassFile.FieldType)) ∈ lw_all := lw_g (lw_at lw_m1 44 rfl) rfl
theorem q109 : (Jvm.Cond.methodLink "LampLeaseOffice" (1 : Nat) ({ cls := "java/lang/Object", name := "<init>", desc := "()V" } : Jvm.MethodName)) ∈ lw_all := lw_g (lw_at lw_m1 45 rfl) rfl
theorem q112 : (Jvm.Cond.classLink "LampLeaseOffice" (7 : Nat) "LampLeaseOffice$State") ∈ lw_all := lw_g (lw_at lw_m1 48 rfl) rfl
theorem q114 : (Jvm.Cond.methodLinkNest "LampLeaseOffice" (9 : Nat) ({ cls := "LampLeaseOffice$State", name := "<init>", desc := "()V" } : Jvm.MethodName) "LampLeaseOffice") ∈ lw_tbl := lw_at lw_m1 50 rfl
theorem q148 : (Jvm.Cond.fieldLinkNest "LampLeaseOffice" (106 : Nat) "LampLeaseOffice$State" "ships" "Ljava/util/ArrayList;" "LampLeaseOffice") ∈ lw_tbl := lw_at lw_m1 84 rfl
theorem q150 : (Jvm.Cond.fieldLinkNest "LampLeaseOffice" (130 : Nat) "LampLeaseOffice$State" "lamps" "Ljava/util/ArrayList;" "LampLeaseOffice") ∈ lw_tbl := lw_at lw_m1 86 rfl
theorem q152 : (Jvm.Cond.fieldLinkNest "LampLeaseOffice" (200 : Nat) "LampLeaseOffice$State" "requests" "Ljava/util/ArrayList;" "LampLeaseOffice") ∈ lw_tbl := lw_at lw_m1 88 rfl
theorem q154 : (Jvm.Cond.fieldLinkNest "LampLeaseOffice" (165 : Nat) "LampLeaseOffice$State" "oil" "I" "LampLeaseOffice") ∈ lw_tbl := lw_at lw_m1 90 rfl
theorem q156 : (Jvm.Cond.fieldLinkNest "LampLeaseOffice" (103 : Nat) "LampLeaseOffice$State" "hour" "I" "LampLeaseOffice") ∈ lw_tbl := lw_at lw_m1 92 rfl
theorem q158 : (Jvm.Cond.fieldLinkNest "LampLeaseOffice" (223 : Nat) "LampLeaseOffice$State" "office" "I" "LampLeaseOffice") ∈ lw_tbl := lw_at lw_m1 94 rfl
theorem q160 : (Jvm.Cond.fieldLinkNest "LampLeaseOffice" (220 : Nat) "LampLeaseOffice$State" "refused" "I" "LampLeaseOffice") ∈ lw_tbl := lw_at lw_m1 96 rfl
theorem q176 : (Jvm.Cond.classLink "LampLeaseOffice" (16 : Nat) "java/util/ArrayList") ∈ lw_all := lw_g (lw_at lw_m1 112 rfl) rfl
theorem q177 : (Jvm.Cond.methodLink "LampLeaseOffice" (18 : Nat) ({ cls := "java/util/ArrayList", name := "<init>", desc := "()V" } : Jvm.MethodName)) ∈ lw_all := lw_g (lw_at lw_m1 113 rfl) rfl
theorem q178 : (Jvm.Cond.classLink "LampLeaseOffice" (34 : Nat) "java/lang/StringBuilder") ∈ lw_all := lw_g (lw_at lw_m1 114 rfl) rfl
theorem q180 : (Jvm.Cond.methodLink "LampLeaseOffice" (36 : Nat) ({ cls := "java/lang/StringBuilder", name := "<init>", desc := "()V" } : Jvm.MethodName)) ∈ lw_all := lw_g (lw_at lw_m1 116 rfl) rfl
theorem q212 : (Jvm.Cond.fieldLink "LampLeaseOffice" (10 : Nat) "LampLeaseOffice" "state" "LLampLeaseOffice$State;") ∈ lw_all := lw_g (lw_at lw_m1 148 rfl) rfl
theorem q213 : (Jvm.Cond.fieldLink "LampLeaseOffice" (19 : Nat) "LampLeaseOffice" "history" "Ljava/util/ArrayList;") ∈ lw_all := lw_g (lw_at lw_m1 149 rfl) rfl
theorem q214 : (Jvm.Cond.fieldLink "LampLeaseOffice" (328 : Nat) "LampLeaseOffice" "saved" "LLampLeaseOffice$State;") ∈ lw_all := lw_g (lw_at lw_m1 150 rfl) rfl
theorem q215 : (Jvm.Cond.fieldLink "LampLeaseOffice" (23 : Nat) "LampLeaseOffice" "input" "[C") ∈ lw_all := lw_g (lw_at lw_m1 151 rfl) rfl
theorem q218 : (Jvm.Cond.fieldLink "LampLeaseOffice" (251 : Nat) "LampLeaseOffice" "inputLength" "I") ∈ lw_all := lw_g (lw_at lw_m1 154 rfl) rfl
theorem q219 : (Jvm.Cond.fieldLink "LampLeaseOffice" (27 : Nat) "LampLeaseOffice" "errorPosition" "I") ∈ lw_all := lw_g (lw_at lw_m1 155 rfl) rfl
theorem q220 : (Jvm.Cond.fieldLink "LampLeaseOffice" (31 : Nat) "LampLeaseOffice" "failedCommand" "I") ∈ lw_all := lw_g (lw_at lw_m1 156 rfl) rfl
theorem q221 : (Jvm.Cond.fieldLink "LampLeaseOffice" (275 : Nat) "LampLeaseOffice" "failureReason" "C") ∈ lw_all := lw_g (lw_at lw_m1 157 rfl) rfl
theorem q222 : (Jvm.Cond.fieldLink "LampLeaseOffice" (37 : Nat) "LampLeaseOffice" "output" "Ljava/lang/StringBuilder;") ∈ lw_all := lw_g (lw_at lw_m1 158 rfl) rfl
theorem q223 : (Jvm.Cond.lays "LampLeaseOffice" "LampLeaseOffice" "state" "LLampLeaseOffice$State;") ∈ lw_all := lw_g (lw_at lw_m1 159 rfl) rfl
theorem q224 : (Jvm.Cond.soleField "LampLeaseOffice" "state") ∈ lw_all := lw_g (lw_at lw_m1 160 rfl) rfl
theorem q225 : (Jvm.Cond.laysFinal "LampLeaseOffice" "LampLeaseOffice" "history" "Ljava/util/ArrayList;") ∈ lw_all := lw_g (lw_at lw_m1 161 rfl) rfl
theorem q226 : (Jvm.Cond.soleField "LampLeaseOffice" "history") ∈ lw_all := lw_g (lw_at lw_m1 162 rfl) rfl
theorem q227 : (Jvm.Cond.lays "LampLeaseOffice" "LampLeaseOffice" "saved" "LLampLeaseOffice$State;") ∈ lw_all := lw_g (lw_at lw_m1 163 rfl) rfl
theorem q228 : (Jvm.Cond.soleField "LampLeaseOffice" "saved") ∈ lw_all := lw_g (lw_at lw_m1 164 rfl) rfl
theorem q229 : (Jvm.Cond.laysFinal "LampLeaseOffice" "LampLeaseOffice" "input" "[C") ∈ lw_all := lw_g (lw_at lw_m1 165 rfl) rfl
theorem q230 : (Jvm.Cond.soleField "LampLeaseOffice" "input") ∈ lw_all := lw_g (lw_at lw_m1 166 rfl) rfl
theorem q231 : (Jvm.Cond.lays "LampLeaseOffice" "LampLeaseOffice" "inputLength" "I") ∈ lw_all := lw_g (lw_at lw_m1 167 rfl) rfl
theorem q232 : (Jvm.Cond.soleField "LampLeaseOffice" "inputLength") ∈ lw_all := lw_g (lw_at lw_m1 168 rfl) rfl
theorem q233 : (Jvm.Cond.lays "LampLeaseOffice" "LampLeaseOffice" "errorPosition" "I") ∈ lw_all := lw_g (lw_at lw_m1 169 rfl) rfl
theorem q234 : (Jvm.Cond.soleField "LampLeaseOffice" "errorPosition") ∈ lw_all := lw_g (lw_at lw_m1 170 rfl) rfl
theorem q235 : (Jvm.Cond.lays "LampLeaseOffice" "LampLeaseOffice" "failedCommand" "I") ∈ lw_all := lw_g (lw_at lw_m1 171 rfl) rfl
theorem q236 : (Jvm.Cond.soleField "LampLeaseOffice" "failedCommand") ∈ lw_all := lw_g (lw_at lw_m1 172 rfl) rfl
theorem q237 : (Jvm.Cond.lays "LampLeaseOffice" "LampLeaseOffice" "failureReason" "C") ∈ lw_all := lw_g (lw_at lw_m1 173 rfl) rfl
theorem q238 : (Jvm.Cond.soleField "LampLeaseOffice" "failureReason") ∈ lw_all := lw_g (lw_at lw_m1 174 rfl) rfl
theorem q239 : (Jvm.Cond.laysFinal "LampLeaseOffice" "LampLeaseOffice" "output" "Ljava/lang/StringBuilder;") ∈ lw_all := lw_g (lw_at lw_m1 175 rfl) rfl
theorem q240 : (Jvm.Cond.soleField "LampLeaseOffice" "output") ∈ lw_all := lw_g (lw_at lw_m1 176 rfl) rfl
theorem q241 : (Jvm.Cond.superclass "LampLeaseOffice" "java/lang/Object") ∈ lw_all := lw_g (lw_at lw_m1 177 rfl) rfl
theorem q243 : (Jvm.Cond.instanceMethod ({ cls := "LampLeaseOffice", name := "hour", desc := "()I" } : Jvm.MethodName)) ∈ lw_all := lw_g (lw_at lw_m1 179 rfl) rfl
theorem q244 : (Jvm.Cond.selects "LampLeaseOffice" ({ cls := "LampLeaseOffice", name := "hour", desc := "()I" } : Jvm.MethodName) ({ cls := "LampLeaseOffice", name := "hour", desc := "()I" } : Jvm.MethodName)) ∈ lw_all := lw_g (lw_at lw_m1 180 rfl) rfl
theorem q245 : (Jvm.Cond.code ({ cls := "LampLeaseOffice", name := "hour", desc := "()I" } : Jvm.MethodName) prog_1_method_17_code (1 : Nat) (Option.some Jvm.ClassFile.FieldType.int)) ∈ lw_all := lw_g (lw_at lw_m1 181 rfl) rfl
theorem q247 : (Jvm.Cond.instanceMethod ({ cls := "LampLeaseOffice", name := "shipCount", desc := "()I" } : Jvm.MethodName)) ∈ lw_all := lw_g (lw_at lw_m1 183 rfl) rfl
theorem q248 : (Jvm.Cond.selects "LampLeaseOffice" ({ cls := "LampLeaseOffice", name := "shipCount", desc := "()I" } : Jvm.MethodName) ({ cls := "LampLeaseOffice", name := "shipCount", desc := "()I" } : Jvm.MethodName)) ∈ lw_all := lw_g (lw_at lw_m1 184 rfl) rfl
theorem q249 : (Jvm.Cond.code ({ cls := "LampLeaseOffice", name := "shipCount", desc := "()I" } : Jvm.MethodName) prog_1_method_18_code (1 : Nat) (Option.some Jvm.ClassFile.FieldType.int)) ∈ lw_all := lw_g (lw_at lw_m1 185 rfl) rfl
theorem q250 : (Jvm.Cond.methodLink "LampLeaseOffice" (59 : Nat) ({ cls := "java/util/ArrayList", name := "size", desc := "()I" } : Jvm.MethodName)) ∈ lw_all := lw_g (lw_at lw_m1 186 rfl) rfl
theorem q255 : (Jvm.Cond.instanceMethod ({ cls := "LampLeaseOffice", name := "lampCount", desc := "()I" } : Jvm.MethodName)) ∈ lw_all := lw_g (lw_at lw_m1 191 rfl) rfl
theorem q256 : (Jvm.Cond.selects "LampLeaseOffice" ({ cls := "LampLeaseOffice", name := "lampCount", desc := "()I" } : Jvm.MethodName) ({ cls := "LampLeaseOffice", name := "lampCount", desc := "()I" } : Jvm.MethodName)) ∈ lw_all := lw_g (lw_at lw_m1 192 rfl) rfl
theorem q257 : (Jvm.Cond.code ({ cls := "LampLeaseOffice", name := "lampCount", desc := "()I" } : Jvm.MethodName) prog_1_method_24_code (1 : Nat) (Option.some Jvm.ClassFile.FieldType.int)) ∈ lw_all := lw_g (lw_at lw_m1 193 rfl) rfl
theorem q259 : (Jvm.Cond.instanceMethod ({ cls := "LampLeaseOffice", name := "leasedLamps", desc := "()I" } : Jvm.MethodName)) ∈ lw_all := lw_g (lw_at lw_m1 195 rfl) rfl
theorem q260 : (Jvm.Cond.selects "LampLeaseOffice" ({ cls := "LampLeaseOffice", name := "leasedLamps", desc := "()I" } : Jvm.MethodName) ({ cls := "LampLeaseOffice", name := "leasedLamps", desc := "()I" } : Jvm.MethodName)) ∈ lw_all := lw_g (lw_at lw_m1 196 rfl) rfl
theorem q261 : (Jvm.Cond.code ({ cls := "LampLeaseOffice", name := "leasedLamps", desc := "()I" } : Jvm.MethodName) prog_1_method_31_code (1 : Nat) (Option.some Jvm.ClassFile.FieldType.int)) ∈ lw_all := lw_g (lw_at lw_m1 197 rfl) rfl
theorem q262 : (Jvm.Cond.methodLink "LampLeaseOffice" (162 : Nat) ({ cls := "LampLeaseOffice$State", name := "leased", desc := "()I" } : Jvm.MethodName)) ∈ lw_all := lw_g (lw_at lw_m1 198 rfl) rfl
theorem q390 : (Jvm.Cond.instanceMethod ({ cls := "LampLeaseOffice", name := "oil", desc := "()I" } : Jvm.MethodName)) ∈ lw_all := lw_g (lw_at lw_m2 86 rfl) rfl
theorem q391 : (Jvm.Cond.selects "LampLeaseOffice" ({ cls := "LampLeaseOffice", name := "oil", desc := "()I" } : Jvm.MethodName) ({ cls := "LampLeaseOffice", name := "oil", desc := "()I" } : Jvm.MethodName)) ∈ lw_all := lw_g (lw_at lw_m2 87 rfl) rfl
theorem q392 : (Jvm.Cond.code ({ cls := "LampLeaseOffice", name := "oil", desc := "()I" } : Jvm.MethodName) prog_1_method_32_code (1 : Nat) (Option.some Jvm.ClassFile.FieldType.int)) ∈ lw_all := lw_g (lw_at lw_m2 88 rfl) rfl
theorem q394 : (Jvm.Cond.instanceMethod ({ cls := "LampLeaseOffice", name := "consumption", desc := "()I" } : Jvm.MethodName)) ∈ lw_all := lw_g (lw_at lw_m2 90 rfl) rfl
theorem q395 : (Jvm.Cond.selects "LampLeaseOffice" ({ cls := "LampLeaseOffice", name := "consumption", desc := "()I" } : Jvm.MethodName) ({ cls := "LampLeaseOffice", name := "consumption", desc := "()I" } : Jvm.MethodName)) ∈ lw_all := lw_g (lw_at lw_m2 91 rfl) rfl
theorem q396 : (Jvm.Cond.code ({ cls := "LampLeaseOffice", name := "consumption", desc := "()I" } : Jvm.MethodName) prog_1_method_33_code (1 : Nat) (Option.some Jvm.ClassFile.FieldType.int)) ∈ lw_all := lw_g (lw_at lw_m2 92 rfl) rfl
theorem q397 : (Jvm.Cond.methodLink "LampLeaseOffice" (168 : Nat) ({ cls := "LampLeaseOffice$State", name := "consumption", desc := "()I" } : Jvm.MethodName)) ∈ lw_all := lw_g (lw_at lw_m2 93 rfl) rfl
theorem q402 : (Jvm.Cond.instanceMethod ({ cls := "LampLeaseOffice", name := "brightNext", desc := "()I" } : Jvm.MethodName)) ∈ lw_all := lw_g (lw_at lw_m2 98 rfl) rfl
theorem q403 : (Jvm.Cond.selects "LampLeaseOffice" ({ cls := "LampLeaseOffice", name := "brightNext", desc := "()I" } : Jvm.MethodName) ({ cls := "LampLeaseOffice", name := "brightNext", desc := "()I" } : Jvm.MethodName)) ∈ lw_all := lw_g (lw_at lw_m2 99 rfl) rfl
theorem q404 : (Jvm.Cond.code ({ cls := "LampLeaseOffice", name := "brightNext", desc := "()I" } : Jvm.MethodName) prog_1_method_37_code (1 : Nat) (Option.some Jvm.ClassFile.FieldType.int)) ∈ lw_all := lw_g (lw_at lw_m2 100 rfl) rfl
theorem q405 : (Jvm.Cond.methodLink "LampLeaseOffice" (71 : Nat) ({ cls := "LampLeaseOffice$State", name := "copy", desc := "()LLampLeaseOffice$State;" } : Jvm.MethodName)) ∈ lw_all := lw_g (lw_at lw_m2 101 rfl) rfl
theorem q423 : (Jvm.Cond.fieldLinkNest "LampLeaseOffice" (113 : Nat) "LampLeaseOffice$Ship" "coins" "I" "LampLeaseOffice") ∈ lw_tbl := lw_at lw_m2 119 rfl
theorem q425 : (Jvm.Cond.fieldLinkNest "LampLeaseOffice" (118 : Nat) "LampLeaseOffice$Ship" "fines" "I" "LampLeaseOffice") ∈ lw_tbl := lw_at lw_m2 121 rfl
theorem q427 : (Jvm.Cond.fieldLinkNest "LampLeaseOffice" (121 : Nat) "LampLeaseOffice$Ship" "darkHours" "I" "LampLeaseOffice") ∈ lw_tbl := lw_at lw_m2 123 rfl
theorem q467 : (Jvm.Cond.selects "LampLeaseOffice" ({ cls := "java/lang/Object", name := "getClass", desc := "()Ljava/lang/Class;" } : Jvm.MethodName) ({ cls := "java/lang/Object", name := "getClass", desc := "()Ljava/lang/Class;" } : Jvm.MethodName)) ∈ lw_all := lw_g (lw_at lw_m2 163 rfl) rfl
theorem q517 : (Jvm.Cond.fieldLinkNest "LampLeaseOffice" (137 : Nat) "LampLeaseOffice$Lamp" "level" "I" "LampLeaseOffice") ∈ lw_tbl := lw_at lw_m2 213 rfl
theorem q520 : (Jvm.Cond.fieldLinkNest "LampLeaseOffice" (149 : Nat) "LampLeaseOffice$Lamp" "lessee" "I" "LampLeaseOffice") ∈ lw_tbl := lw_at lw_m2 216 rfl
theorem q523 : (Jvm.Cond.fieldLinkNest "LampLeaseOffice" (152 : Nat) "LampLeaseOffice$Lamp" "end" "I" "LampLeaseOffice") ∈ lw_tbl := lw_at lw_m2 219 rfl
theorem q525 : (Jvm.Cond.fieldLinkNest "LampLeaseOffice" (155 : Nat) "LampLeaseOffice$Lamp" "brightHours" "I" "LampLeaseOffice") ∈ lw_tbl := lw_at lw_m2 221 rfl
theorem q528 : (Jvm.Cond.fieldLinkNest "LampLeaseOffice" (158 : Nat) "LampLeaseOffice$Lamp" "isBright" "Z" "LampLeaseOffice") ∈ lw_tbl := lw_at lw_m2 224 rfl
theorem q541 : (Jvm.Cond.methodLinkNest "LampLeaseOffice" (184 : Nat) ({ cls := "LampLeaseOffice$State", name := "burn", desc := "()I" } : Jvm.MethodName) "LampLeaseOffice") ∈ lw_tbl := lw_at lw_m2 237 rfl
theorem q551 : (Jvm.Cond.instanceMethod ({ cls := "LampLeaseOffice", name := "mostBright", desc := "()I" } : Jvm.MethodName)) ∈ lw_all := lw_g (lw_at lw_m3 7 rfl) rfl
theorem q552 : (Jvm.Cond.selects "LampLeaseOffice" ({ cls := "LampLeaseOffice", name := "mostBright", desc := "()I" } : Jvm.MethodName) ({ cls := "LampLeaseOffice", name := "mostBright", desc := "()I" } : Jvm.MethodName)) ∈ lw_all := lw_g (lw_at lw_m3 8 rfl) rfl
theorem q553 : (Jvm.Cond.code ({ cls := "LampLeaseOffice", name := "mostBright", desc := "()I" } : Jvm.MethodName) prog_1_method_38_code (1 : Nat) (Option.some Jvm.ClassFile.FieldType.int)) ∈ lw_all := lw_g (lw_at lw_m3 9 rfl) rfl
theorem q554 : (Jvm.Cond.methodLink "LampLeaseOffice" (187 : Nat) ({ cls := "LampLeaseOffice$State", name := "mostBright", desc := "()I" } : Jvm.MethodName)) ∈ lw_all := lw_g (lw_at lw_m3 10 rfl) rfl
theorem q559 : (Jvm.Cond.instanceMethod ({ cls := "LampLeaseOffice", name := "mostBrightBySums", desc := "()I" } : Jvm.MethodName)) ∈ lw_all := lw_g (lw_at lw_m3 15 rfl) rfl
theorem q560 : (Jvm.Cond.selects "LampLeaseOffice" ({ cls := "LampLeaseOffice", name := "mostBrightBySums", desc := "()I" } : Jvm.MethodName) ({ cls := "LampLeaseOffice", name := "mostBrightBySums", desc := "()I" } : Jvm.MethodName)) ∈ lw_all := lw_g (lw_at lw_m3 16 rfl) rfl
theorem q561 : (Jvm.Cond.code ({ cls := "LampLeaseOffice", name := "mostBrightBySums", desc := "()I" } : Jvm.MethodName) prog_1_method_39_code (1 : Nat) (Option.some Jvm.ClassFile.FieldType.int)) ∈ lw_all := lw_g (lw_at lw_m3 17 rfl) rfl
theorem q562 : (Jvm.Cond.methodLink "LampLeaseOffice" (190 : Nat) ({ cls := "LampLeaseOffice$State", name := "mostBrightBySums", desc := "()I" } : Jvm.MethodName)) ∈ lw_all := lw_g (lw_at lw_m3 18 rfl) rfl
theorem q569 : (Jvm.Cond.instanceMethod ({ cls := "LampLeaseOffice", name := "requestCount", desc := "()I" } : Jvm.MethodName)) ∈ lw_all := lw_g (lw_at lw_m3 25 rfl) rfl
theorem q570 : (Jvm.Cond.selects "LampLeaseOffice" ({ cls := "LampLeaseOffice", name := "requestCount", desc := "()I" } : Jvm.MethodName) ({ cls := "LampLeaseOffice", name := "requestCount", desc := "()I" } : Jvm.MethodName)) ∈ lw_all := lw_g (lw_at lw_m3 26 rfl) rfl
theorem q571 : (Jvm.Cond.code ({ cls := "LampLeaseOffice", name := "requestCount", desc := "()I" } : Jvm.MethodName) prog_1_method_42_code (1 : Nat) (Option.some Jvm.ClassFile.FieldType.int)) ∈ lw_all := lw_g (lw_at lw_m3 27 rfl) rfl
theorem q573 : (Jvm.Cond.instanceMethod ({ cls := "LampLeaseOffice", name := "refusedRenewals", desc := "()I" } : Jvm.MethodName)) ∈ lw_all := lw_g (lw_at lw_m3 29 rfl) rfl
theorem q574 : (Jvm.Cond.selects "LampLeaseOffice" ({ cls := "LampLeaseOffice", name := "refusedRenewals", desc := "()I" } : Jvm.MethodName) ({ cls := "LampLeaseOffice", name := "refusedRenewals", desc := "()I" } : Jvm.MethodName)) ∈ lw_all := lw_g (lw_at lw_m3 30 rfl) rfl
theorem q575 : (Jvm.Cond.code ({ cls := "LampLeaseOffice", name := "refusedRenewals", desc := "()I" } : Jvm.MethodName) prog_1_method_46_code (1 : Nat) (Option.some Jvm.ClassFile.FieldType.int)) ∈ lw_all := lw_g (lw_at lw_m3 31 rfl) rfl
theorem q577 : (Jvm.Cond.instanceMethod ({ cls := "LampLeaseOffice", name := "officeCoins", desc := "()I" } : Jvm.MethodName)) ∈ lw_all := lw_g (lw_at lw_m3 33 rfl) rfl
theorem q578 : (Jvm.Cond.selects "LampLeaseOffice" ({ cls := "LampLeaseOffice", name := "officeCoins", desc := "()I" } : Jvm.MethodName) ({ cls := "LampLeaseOffice", name := "officeCoins", desc := "()I" } : Jvm.MethodName)) ∈ lw_all := lw_g (lw_at lw_m3 34 rfl) rfl
theorem q579 : (Jvm.Cond.code ({ cls := "LampLeaseOffice", name := "officeCoins", desc := "()I" } : Jvm.MethodName) prog_1_method_47_code (1 : Nat) (Option.some Jvm.ClassFile.FieldType.int)) ∈ lw_all := lw_g (lw_at lw_m3 35 rfl) rfl
theorem q581 : (Jvm.Cond.instanceMethod ({ cls := "LampLeaseOffice", name := "isConsistent", desc := "()Z" } : Jvm.MethodName)) ∈ lw_all := lw_g (lw_at lw_m3 37 rfl) rfl
theorem q582 : (Jvm.Cond.selects "LampLeaseOffice" ({ cls := "LampLeaseOffice", name := "isConsistent", desc := "()Z" } : Jvm.MethodName) ({ cls := "LampLeaseOffice", name := "isConsistent", desc := "()Z" } : Jvm.MethodName)) ∈ lw_all := lw_g (lw_at lw_m3 38 rfl) rfl
theorem q583 : (Jvm.Cond.code ({ cls := "LampLeaseOffice", name := "isConsistent", desc := "()Z" } : Jvm.MethodName) prog_1_method_52_code (7 : Nat) (Option.some Jvm.ClassFile.FieldType.boolean)) ∈ lw_all := lw_g (lw_at lw_m3 39 rfl) rfl
theorem q584 : (Jvm.Cond.methodLink "LampLeaseOffice" (193 : Nat) ({ cls := "LampLeaseOffice$State", name := "shares", desc := "()[I" } : Jvm.MethodName)) ∈ lw_all := lw_g (lw_at lw_m3 40 rfl) rfl
theorem q602 : (Jvm.Cond.methodLink "LampLeaseOffice" (207 : Nat) ({ cls := "java/util/ArrayList", name := "get", desc := "(I)Ljava/lang/Object;" } : Jvm.MethodName)) ∈ lw_all := lw_g (lw_at lw_m3 58 rfl) rfl
theorem q616 : (Jvm.Cond.classLink "LampLeaseOffice" (114 : Nat) "LampLeaseOffice$Ship") ∈ lw_all := lw_g (lw_at lw_m3 72 rfl) rfl
theorem q617 : (Jvm.Cond.methodLink "LampLeaseOffice" (197 : Nat) ({ cls := "LampLeaseOffice$State", name := "shareByRank", desc := "(I)I" } : Jvm.MethodName)) ∈ lw_all := lw_g (lw_at lw_m3 73 rfl) rfl
theorem q621 : (Jvm.Cond.methodLink "LampLeaseOffice" (238 : Nat) ({ cls := "java/util/ArrayList", name := "iterator", desc := "()Ljava/util/Iterator;" } : Jvm.MethodName)) ∈ lw_all := lw_g (lw_at lw_m3 77 rfl) rfl
theorem q622 : (Jvm.Cond.interfaceEntry "LampLeaseOffice" (242 : Nat)) ∈ lw_tbl := lw_at lw_m3 78 rfl
theorem q623 : (Jvm.Cond.methodLink "LampLeaseOffice" (242 : Nat) ({ cls := "java/util/Iterator", name := "hasNext", desc := "()Z" } : Jvm.MethodName)) ∈ lw_all := lw_g (lw_at lw_m3 79 rfl) rfl
theorem q624 : (Jvm.Cond.interfaceEntry "LampLeaseOffice" (247 : Nat)) ∈ lw_tbl := lw_at lw_m3 80 rfl
theorem q625 : (Jvm.Cond.methodLink "LampLeaseOffice" (247 : Nat) ({ cls := "java/util/Iterator", name := "next", desc := "()Ljava/lang/Object;" } : Jvm.MethodName)) ∈ lw_all := lw_g (lw_at lw_m3 81 rfl) rfl
theorem q626 : (Jvm.Cond.classLink "LampLeaseOffice" (210 : Nat) "LampLeaseOffice$Request") ∈ lw_all := lw_g (lw_at lw_m3 82 rfl) rfl
theorem q627 : (Jvm.Cond.classLink "LampLeaseOffice" (138 : Nat) "LampLeaseOffice$Lamp") ∈ lw_all := lw_g (lw_at lw_m3 83 rfl) rfl
theorem q628 : (Jvm.Cond.methodLink "LampLeaseOffice" (142 : Nat) ({ cls := "LampLeaseOffice$Lamp", name := "isLeased", desc := "()Z" } : Jvm.MethodName)) ∈ lw_all := lw_g (lw_at lw_m3 84 rfl) rfl
theorem q630 : (Jvm.Cond.instanceMethod ({ cls := "LampLeaseOffice", name := "writeLamps", desc := "()I" } : Jvm.MethodName)) ∈ lw_all := lw_g (lw_at lw_m3 86 rfl) rfl
theorem q631 : (Jvm.Cond.selects "LampLeaseOffice" ({ cls := "LampLeaseOffice", name := "writeLamps", desc := "()I" } : Jvm.MethodName) ({ cls := "LampLeaseOffice", name := "writeLamps", desc := "()I" } : Jvm.MethodName)) ∈ lw_all := lw_g (lw_at lw_m3 87 rfl) rfl
theorem q632 : (Jvm.Cond.code ({ cls := "LampLeaseOffice", name := "writeLamps", desc := "()I" } : Jvm.MethodName) prog_1_method_59_code (3 : Nat) (Option.some Jvm.ClassFile.FieldType.int)) ∈ lw_all := lw_g (lw_at lw_m3 88 rfl) rfl
theorem q633 : (Jvm.Cond.methodLink "LampLeaseOffice" (292 : Nat) ({ cls := "java/lang/StringBuilder", name := "setLength", desc := "(I)V" } : Jvm.MethodName)) ∈ lw_all := lw_g (lw_at lw_m3 89 rfl) rfl
theorem q919 : (Jvm.Cond.stringRef "LampLeaseOffice" (295 : Nat) "") ∈ lw_tbl := lw_at lw_m4 135 rfl
theorem q920 : (Jvm.Cond.stringRef "LampLeaseOffice" (297 : Nat) " ") ∈ lw_tbl := lw_at lw_m4 136 rfl
theorem q921 : (Jvm.Cond.methodLink "LampLeaseOffice" (299 : Nat) ({ cls := "java/lang/StringBuilder", name := "append", desc := "(Ljava/lang/String;)Ljava/lang/StringBuilder;" } : Jvm.MethodName)) ∈ lw_all := lw_g (lw_at lw_m4 137 rfl) rfl
theorem q922 : (Jvm.Cond.methodLink "LampLeaseOffice" (303 : Nat) ({ cls := "java/lang/StringBuilder", name := "append", desc := "(I)Ljava/lang/StringBuilder;" } : Jvm.MethodName)) ∈ lw_all := lw_g (lw_at lw_m4 138 rfl) rfl
theorem q923 : (Jvm.Cond.methodLink "LampLeaseOffice" (306 : Nat) ({ cls := "java/lang/StringBuilder", name := "append", desc := "(C)Ljava/lang/StringBuilder;" } : Jvm.MethodName)) ∈ lw_all := lw_g (lw_at lw_m4 139 rfl) rfl
theorem q943 : (Jvm.Cond.methodLink "LampLeaseOffice" (309 : Nat) ({ cls := "LampLeaseOffice$State", name := "isRequested", desc := "(I)Z" } : Jvm.MethodName)) ∈ lw_all := lw_g (lw_at lw_m4 159 rfl) rfl
theorem q947 : (Jvm.Cond.stringRef "LampLeaseOffice" (313 : Nat) "r") ∈ lw_tbl := lw_at lw_m4 163 rfl
theorem q948 : (Jvm.Cond.methodLink "LampLeaseOffice" (315 : Nat) ({ cls := "java/lang/StringBuilder", name := "length", desc := "()I" } : Jvm.MethodName)) ∈ lw_all := lw_g (lw_at lw_m4 164 rfl) rfl
theorem q950 : (Jvm.Cond.instanceMethod ({ cls := "LampLeaseOffice", name := "undoCount", desc := "()I" } : Jvm.MethodName)) ∈ lw_all := lw_g (lw_at lw_m4 166 rfl) rfl
theorem q951 : (Jvm.Cond.selects "LampLeaseOffice" ({ cls := "LampLeaseOffice", name := "undoCount", desc := "()I" } : Jvm.MethodName) ({ cls := "LampLeaseOffice", name := "undoCount", desc := "()I" } : Jvm.MethodName)) ∈ lw_all := lw_g (lw_at lw_m4 167 rfl) rfl
theorem q952 : (Jvm.Cond.code ({ cls := "LampLeaseOffice", name := "undoCount", desc := "()I" } : Jvm.MethodName) prog_1_method_61_code (1 : Nat) (Option.some Jvm.ClassFile.FieldType.int)) ∈ lw_all := lw_g (lw_at lw_m4 168 rfl) rfl
theorem q954 : (Jvm.Cond.instanceMethod ({ cls := "LampLeaseOffice", name := "save", desc := "()I" } : Jvm.MethodName)) ∈ lw_all := lw_g (lw_at lw_m4 170 rfl) rfl
theorem q955 : (Jvm.Cond.selects "LampLeaseOffice" ({ cls := "LampLeaseOffice", name := "save", desc := "()I" } : Jvm.MethodName) ({ cls := "LampLeaseOffice", name := "save", desc := "()I" } : Jvm.MethodName)) ∈ lw_all := lw_g (lw_at lw_m4 171 rfl) rfl
theorem q956 : (Jvm.Cond.code ({ cls := "LampLeaseOffice", name := "save", desc := "()I" } : Jvm.MethodName) prog_1_method_63_code (1 : Nat) (Option.some Jvm.ClassFile.FieldType.int)) ∈ lw_all := lw_g (lw_at lw_m4 172 rfl) rfl
theorem q962 : (Jvm.Cond.instanceMethod ({ cls := "LampLeaseOffice", name := "addShip", desc := "()I" } : Jvm.MethodName)) ∈ lw_all := lw_g (lw_at lw_m4 178 rfl) rfl
theorem q963 : (Jvm.Cond.selects "LampLeaseOffice" ({ cls := "LampLeaseOffice", name := "addShip", desc := "()I" } : Jvm.MethodName) ({ cls := "LampLeaseOffice", name := "addShip", desc := "()I" } : Jvm.MethodName)) ∈ lw_all := lw_g (lw_at lw_m4 179 rfl) rfl
theorem q964 : (Jvm.Cond.code ({ cls := "LampLeaseOffice", name := "addShip", desc := "()I" } : Jvm.MethodName) prog_1_method_10_code (2 : Nat) (Option.some Jvm.ClassFile.FieldType.int)) ∈ lw_all := lw_g (lw_at lw_m4 180 rfl) rfl
theorem q965 : (Jvm.Cond.methodLink "LampLeaseOffice" (75 : Nat) ({ cls := "LampLeaseOffice$State", name := "addShip", desc := "()I" } : Jvm.MethodName)) ∈ lw_all := lw_g (lw_at lw_m4 181 rfl) rfl
theorem q970 : (Jvm.Cond.static ({ cls := "LampLeaseOffice", name := "requireState", desc := "(Z)V" } : Jvm.MethodName)) ∈ lw_all := lw_g (lw_at lw_m4 186 rfl) rfl
theorem q971 : (Jvm.Cond.code ({ cls := "LampLeaseOffice", name := "requireState", desc := "(Z)V" } : Jvm.MethodName) prog_1_method_5_code (1 : Nat) (Option.none : Option Jvm.ClassFile.FieldType)) ∈ lw_all := lw_g (lw_at lw_m4 187 rfl) rfl
theorem q972 : (Jvm.Cond.classLink "LampLeaseOffice" (47 : Nat) "java/lang/IllegalStateException") ∈ lw_all := lw_g (lw_at lw_m4 188 rfl) rfl
theorem q981 : (Jvm.Cond.methodLink "LampLeaseOffice" (49 : Nat) ({ cls := "java/lang/IllegalStateException", name := "<init>", desc := "()V" } : Jvm.MethodName)) ∈ lw_all := lw_g (lw_at lw_m4 197 rfl) rfl
theorem q988 : (Jvm.Cond.methodLink "LampLeaseOffice" (78 : Nat) ({ cls := "LampLeaseOffice", name := "record", desc := "(LLampLeaseOffice$State;I)I" } : Jvm.MethodName)) ∈ lw_all := lw_g (lw_at lw_m4 204 rfl) rfl
theorem q989 : (Jvm.Cond.privateMethod ({ cls := "LampLeaseOffice", name := "record", desc := "(LLampLeaseOffice$State;I)I" } : Jvm.MethodName)) ∈ lw_tbl := lw_at lw_m4 205 rfl
theorem q990 : (Jvm.Cond.instanceMethod ({ cls := "LampLeaseOffice", name := "record", desc := "(LLampLeaseOffice$State;I)I" } : Jvm.MethodName)) ∈ lw_all := lw_g (lw_at lw_m4 206 rfl) rfl
theorem q991 : (Jvm.Cond.code ({ cls := "LampLeaseOffice", name := "record", desc := "(LLampLeaseOffice$State;I)I" } : Jvm.MethodName) prog_1_method_9_code (3 : Nat) (Option.some Jvm.ClassFile.FieldType.int)) ∈ lw_all := lw_g (lw_at lw_m4 207 rfl) rfl
theorem q992 : (Jvm.Cond.methodLink "LampLeaseOffice" (63 : Nat) ({ cls := "java/util/ArrayList", name := "remove", desc := "(I)Ljava/lang/Object;" } : Jvm.MethodName)) ∈ lw_all := lw_g (lw_at lw_m4 208 rfl) rfl
theorem q1001 : (Jvm.Cond.methodLink "LampLeaseOffice" (67 : Nat) ({ cls := "java/util/ArrayList", name := "add", desc := "(Ljava/lang/Object;)Z" } : Jvm.MethodName)) ∈ lw_all := lw_g (lw_at lw_m4 217 rfl) rfl
theorem q1007 : (Jvm.Cond.instanceMethod ({ cls := "LampLeaseOffice", name := "addLamp", desc := "(I)I" } : Jvm.MethodName)) ∈ lw_all := lw_g (lw_at lw_m4 223 rfl) rfl
theorem q1008 : (Jvm.Cond.selects "LampLeaseOffice" ({ cls := "LampLeaseOffice", name := "addLamp", desc := "(I)I" } : Jvm.MethodName) ({ cls := "LampLeaseOffice", name := "addLamp", desc := "(I)I" } : Jvm.MethodName)) ∈ lw_all := lw_g (lw_at lw_m4 224 rfl) rfl
theorem q1009 : (Jvm.Cond.code ({ cls := "LampLeaseOffice", name := "addLamp", desc := "(I)I" } : Jvm.MethodName) prog_1_method_11_code (3 : Nat) (Option.some Jvm.ClassFile.FieldType.int)) ∈ lw_all := lw_g (lw_at lw_m4 225 rfl) rfl
theorem q1010 : (Jvm.Cond.methodLink "LampLeaseOffice" (82 : Nat) ({ cls := "LampLeaseOffice$State", name := "addLamp", desc := "(I)I" } : Jvm.MethodName)) ∈ lw_all := lw_g (lw_at lw_m4 226 rfl) rfl
theorem q1015 : (Jvm.Cond.static ({ cls := "LampLeaseOffice", name := "isBetween", desc := "(III)Z" } : Jvm.MethodName)) ∈ lw_all := lw_g (lw_at lw_m4 231 rfl) rfl
theorem q1016 : (Jvm.Cond.code ({ cls := "LampLeaseOffice", name := "isBetween", desc := "(III)Z" } : Jvm.MethodName) prog_1_method_2_code (3 : Nat) (Option.some Jvm.ClassFile.FieldType.boolean)) ∈ lw_all := lw_g (lw_at lw_m4 232 rfl) rfl
theorem q1018 : (Jvm.Cond.static ({ cls := "LampLeaseOffice", name := "requireArgument", desc := "(Z)V" } : Jvm.MethodName)) ∈ lw_all := lw_g (lw_at lw_m4 234 rfl) rfl
theorem q1019 : (Jvm.Cond.code ({ cls := "LampLeaseOffice", name := "requireArgument", desc := "(Z)V" } : Jvm.MethodName) prog_1_method_4_code (1 : Nat) (Option.none : Option Jvm.ClassFile.FieldType)) ∈ lw_all := lw_g (lw_at lw_m4 235 rfl) rfl
theorem q1020 : (Jvm.Cond.classLink "LampLeaseOffice" (44 : Nat) "java/lang/IllegalArgumentException") ∈ lw_all := lw_g (lw_at lw_m4 236 rfl) rfl
theorem q1021 : (Jvm.Cond.methodLink "LampLeaseOffice" (46 : Nat) ({ cls := "java/lang/IllegalArgumentException", name := "<init>", desc := "()V" } : Jvm.MethodName)) ∈ lw_all := lw_g (lw_at lw_m4 237 rfl) rfl
theorem q1030 : (Jvm.Cond.instanceMethod ({ cls := "LampLeaseOffice", name := "addOil", desc := "(I)I" } : Jvm.MethodName)) ∈ lw_all := lw_g (lw_at lw_m5 6 rfl) rfl
theorem q1031 : (Jvm.Cond.selects "LampLeaseOffice" ({ cls := "LampLeaseOffice", name := "addOil", desc := "(I)I" } : Jvm.MethodName) ({ cls := "LampLeaseOffice", name := "addOil", desc := "(I)I" } : Jvm.MethodName)) ∈ lw_all := lw_g (lw_at lw_m5 7 rfl) rfl
theorem q1032 : (Jvm.Cond.code ({ cls := "LampLeaseOffice", name := "addOil", desc := "(I)I" } : Jvm.MethodName) prog_1_method_12_code (3 : Nat) (Option.some Jvm.ClassFile.FieldType.int)) ∈ lw_all := lw_g (lw_at lw_m5 8 rfl) rfl
theorem q1033 : (Jvm.Cond.methodLink "LampLeaseOffice" (86 : Nat) ({ cls := "LampLeaseOffice$State", name := "addOil", desc := "(I)I" } : Jvm.MethodName)) ∈ lw_all := lw_g (lw_at lw_m5 9 rfl) rfl
theorem q1045 : (Jvm.Cond.instanceMethod ({ cls := "LampLeaseOffice", name := "lease", desc := "(III)I" } : Jvm.MethodName)) ∈ lw_all := lw_g (lw_at lw_m5 21 rfl) rfl
theorem q1046 : (Jvm.Cond.selects "LampLeaseOffice" ({ cls := "LampLeaseOffice", name := "lease", desc := "(III)I" } : Jvm.MethodName) ({ cls := "LampLeaseOffice", name := "lease", desc := "(III)I" } : Jvm.MethodName)) ∈ lw_all := lw_g (lw_at lw_m5 22 rfl) rfl
theorem q1047 : (Jvm.Cond.code ({ cls := "LampLeaseOffice", name := "lease", desc := "(III)I" } : Jvm.MethodName) prog_1_method_13_code (5 : Nat) (Option.some Jvm.ClassFile.FieldType.int)) ∈ lw_all := lw_g (lw_at lw_m5 23 rfl) rfl
theorem q1048 : (Jvm.Cond.methodLink "LampLeaseOffice" (89 : Nat) ({ cls := "LampLeaseOffice$State", name := "lease", desc := "(III)I" } : Jvm.MethodName)) ∈ lw_all := lw_g (lw_at lw_m5 24 rfl) rfl
theorem q1058 : (Jvm.Cond.static ({ cls := "LampLeaseOffice", name := "requireIndex", desc := "(Z)V" } : Jvm.MethodName)) ∈ lw_all := lw_g (lw_at lw_m5 34 rfl) rfl
theorem q1059 : (Jvm.Cond.code ({ cls := "LampLeaseOffice", name := "requireIndex", desc := "(Z)V" } : Jvm.MethodName) prog_1_method_3_code (1 : Nat) (Option.none : Option Jvm.ClassFile.FieldType)) ∈ lw_all := lw_g (lw_at lw_m5 35 rfl) rfl
theorem q1060 : (Jvm.Cond.classLink "LampLeaseOffice" (41 : Nat) "java/lang/IndexOutOfBoundsException") ∈ lw_all := lw_g (lw_at lw_m5 36 rfl) rfl
theorem q1069 : (Jvm.Cond.methodLink "LampLeaseOffice" (43 : Nat) ({ cls := "java/lang/IndexOutOfBoundsException", name := "<init>", desc := "()V" } : Jvm.MethodName)) ∈ lw_all := lw_g (lw_at lw_m5 45 rfl) rfl
theorem q1128 : (Jvm.Cond.instanceMethod ({ cls := "LampLeaseOffice", name := "requestRenewal", desc := "(II)I" } : Jvm.MethodName)) ∈ lw_all := lw_g (lw_at lw_m5 104 rfl) rfl
theorem q1129 : (Jvm.Cond.selects "LampLeaseOffice" ({ cls := "LampLeaseOffice", name := "requestRenewal", desc := "(II)I" } : Jvm.MethodName) ({ cls := "LampLeaseOffice", name := "requestRenewal", desc := "(II)I" } : Jvm.MethodName)) ∈ lw_all := lw_g (lw_at lw_m5 105 rfl) rfl
theorem q1130 : (Jvm.Cond.code ({ cls := "LampLeaseOffice", name := "requestRenewal", desc := "(II)I" } : Jvm.MethodName) prog_1_method_14_code (4 : Nat) (Option.some Jvm.ClassFile.FieldType.int)) ∈ lw_all := lw_g (lw_at lw_m5 106 rfl) rfl
theorem q1131 : (Jvm.Cond.methodLink "LampLeaseOffice" (93 : Nat) ({ cls := "LampLeaseOffice$State", name := "request", desc := "(II)I" } : Jvm.MethodName)) ∈ lw_all := lw_g (lw_at lw_m5 107 rfl) rfl
theorem q1140 : (Jvm.Cond.static ({ cls := "LampLeaseOffice", name := "requireElement", desc := "(Z)V" } : Jvm.MethodName)) ∈ lw_all := lw_g (lw_at lw_m5 116 rfl) rfl
theorem q1141 : (Jvm.Cond.code ({ cls := "LampLeaseOffice", name := "requireElement", desc := "(Z)V" } : Jvm.MethodName) prog_1_method_6_code (1 : Nat) (Option.none : Option Jvm.ClassFile.FieldType)) ∈ lw_all := lw_g (lw_at lw_m5 117 rfl) rfl
theorem q1142 : (Jvm.Cond.classLink "LampLeaseOffice" (50 : Nat) "java/util/NoSuchElementException") ∈ lw_all := lw_g (lw_at lw_m5 118 rfl) rfl
theorem q1143 : (Jvm.Cond.methodLink "LampLeaseOffice" (52 : Nat) ({ cls := "java/util/NoSuchElementException", name := "<init>", desc := "()V" } : Jvm.MethodName)) ∈ lw_all := lw_g (lw_at lw_m5 119 rfl) rfl
theorem q1152 : (Jvm.Cond.fieldLinkNest "LampLeaseOffice" (215 : Nat) "LampLeaseOffice$Request" "lamp" "I" "LampLeaseOffice") ∈ lw_tbl := lw_at lw_m5 128 rfl
theorem q1155 : (Jvm.Cond.fieldLinkNest "LampLeaseOffice" (217 : Nat) "LampLeaseOffice$Request" "hours" "I" "LampLeaseOffice") ∈ lw_tbl := lw_at lw_m5 131 rfl
theorem q1165 : (Jvm.Cond.instanceMethod ({ cls := "LampLeaseOffice", name := "giveUp", desc := "(I)I" } : Jvm.MethodName)) ∈ lw_all := lw_g (lw_at lw_m5 141 rfl) rfl
theorem q1166 : (Jvm.Cond.selects "LampLeaseOffice" ({ cls := "LampLeaseOffice", name := "giveUp", desc := "(I)I" } : Jvm.MethodName) ({ cls := "LampLeaseOffice", name := "giveUp", desc := "(I)I" } : Jvm.MethodName)) ∈ lw_all := lw_g (lw_at lw_m5 142 rfl) rfl
theorem q1167 : (Jvm.Cond.code ({ cls := "LampLeaseOffice", name := "giveUp", desc := "(I)I" } : Jvm.MethodName) prog_1_method_15_code (3 : Nat) (Option.some Jvm.ClassFile.FieldType.int)) ∈ lw_all := lw_g (lw_at lw_m5 143 rfl) rfl
theorem q1168 : (Jvm.Cond.methodLink "LampLeaseOffice" (97 : Nat) ({ cls := "LampLeaseOffice$State", name := "giveUp", desc := "(I)I" } : Jvm.MethodName)) ∈ lw_all := lw_g (lw_at lw_m5 144 rfl) rfl
theorem q1181 : (Jvm.Cond.instanceMethod ({ cls := "LampLeaseOffice", name := "passHours", desc := "(I)I" } : Jvm.MethodName)) ∈ lw_all := lw_g (lw_at lw_m5 157 rfl) rfl
theorem q1182 : (Jvm.Cond.selects "LampLeaseOffice" ({ cls := "LampLeaseOffice", name := "passHours", desc := "(I)I" } : Jvm.MethodName) ({ cls := "LampLeaseOffice", name := "passHours", desc := "(I)I" } : Jvm.MethodName)) ∈ lw_all := lw_g (lw_at lw_m5 158 rfl) rfl
theorem q1183 : (Jvm.Cond.code ({ cls := "LampLeaseOffice", name := "passHours", desc := "(I)I" } : Jvm.MethodName) prog_1_method_16_code (3 : Nat) (Option.some Jvm.ClassFile.FieldType.int)) ∈ lw_all := lw_g (lw_at lw_m5 159 rfl) rfl
theorem q1184 : (Jvm.Cond.methodLink "LampLeaseOffice" (100 : Nat) ({ cls := "LampLeaseOffice$State", name := "passHours", desc := "(I)I" } : Jvm.MethodName)) ∈ lw_all := lw_g (lw_at lw_m5 160 rfl) rfl
theorem q1226 : (Jvm.Cond.instanceMethod ({ cls := "LampLeaseOffice", name := "coins", desc := "(I)I" } : Jvm.MethodName)) ∈ lw_all := lw_g (lw_at lw_m5 202 rfl) rfl
theorem q1227 : (Jvm.Cond.selects "LampLeaseOffice" ({ cls := "LampLeaseOffice", name := "coins", desc := "(I)I" } : Jvm.MethodName) ({ cls := "LampLeaseOffice", name := "coins", desc := "(I)I" } : Jvm.MethodName)) ∈ lw_all := lw_g (lw_at lw_m5 203 rfl) rfl
theorem q1228 : (Jvm.Cond.code ({ cls := "LampLeaseOffice", name := "coins", desc := "(I)I" } : Jvm.MethodName) prog_1_method_19_code (2 : Nat) (Option.some Jvm.ClassFile.FieldType.int)) ∈ lw_all := lw_g (lw_at lw_m5 204 rfl) rfl
theorem q1229 : (Jvm.Cond.methodLink "LampLeaseOffice" (109 : Nat) ({ cls := "LampLeaseOffice$State", name := "ship", desc := "(I)LLampLeaseOffice$Ship;" } : Jvm.MethodName)) ∈ lw_all := lw_g (lw_at lw_m5 205 rfl) rfl
theorem q1234 : (Jvm.Cond.instanceMethod ({ cls := "LampLeaseOffice", name := "finesPaid", desc := "(I)I" } : Jvm.MethodName)) ∈ lw_all := lw_g (lw_at lw_m5 210 rfl) rfl
theorem q1235 : (Jvm.Cond.selects "LampLeaseOffice" ({ cls := "LampLeaseOffice", name := "finesPaid", desc := "(I)I" } : Jvm.MethodName) ({ cls := "LampLeaseOffice", name := "finesPaid", desc := "(I)I" } : Jvm.MethodName)) ∈ lw_all := lw_g (lw_at lw_m5 211 rfl) rfl
theorem q1236 : (Jvm.Cond.code ({ cls := "LampLeaseOffice", name := "finesPaid", desc := "(I)I" } : Jvm.MethodName) prog_1_method_20_code (2 : Nat) (Option.some Jvm.ClassFile.FieldType.int)) ∈ lw_all := lw_g (lw_at lw_m5 212 rfl) rfl
theorem q1241 : (Jvm.Cond.instanceMethod ({ cls := "LampLeaseOffice", name := "darkHours", desc := "(I)I" } : Jvm.MethodName)) ∈ lw_all := lw_g (lw_at lw_m5 217 rfl) rfl
theorem q1242 : (Jvm.Cond.selects "LampLeaseOffice" ({ cls := "LampLeaseOffice", name := "darkHours", desc := "(I)I" } : Jvm.MethodName) ({ cls := "LampLeaseOffice", name := "darkHours", desc := "(I)I" } : Jvm.MethodName)) ∈ lw_all := lw_g (lw_at lw_m5 218 rfl) rfl
theorem q1243 : (Jvm.Cond.code ({ cls := "LampLeaseOffice", name := "darkHours", desc := "(I)I" } : Jvm.MethodName) prog_1_method_21_code (2 : Nat) (Option.some Jvm.ClassFile.FieldType.int)) ∈ lw_all := lw_g (lw_at lw_m5 219 rfl) rfl
theorem q1248 : (Jvm.Cond.instanceMethod ({ cls := "LampLeaseOffice", name := "demand", desc := "(I)I" } : Jvm.MethodName)) ∈ lw_all := lw_g (lw_at lw_m5 224 rfl) rfl
theorem q1249 : (Jvm.Cond.selects "LampLeaseOffice" ({ cls := "LampLeaseOffice", name := "demand", desc := "(I)I" } : Jvm.MethodName) ({ cls := "LampLeaseOffice", name := "demand", desc := "(I)I" } : Jvm.MethodName)) ∈ lw_all := lw_g (lw_at lw_m5 225 rfl) rfl
theorem q1250 : (Jvm.Cond.code ({ cls := "LampLeaseOffice", name := "demand", desc := "(I)I" } : Jvm.MethodName) prog_1_method_22_code (2 : Nat) (Option.some Jvm.ClassFile.FieldType.int)) ∈ lw_all := lw_g (lw_at lw_m5 226 rfl) rfl
theorem q1251 : (Jvm.Cond.methodLink "LampLeaseOffice" (124 : Nat) ({ cls := "LampLeaseOffice$State", name := "demand", desc := "(I)I" } : Jvm.MethodName)) ∈ lw_all := lw_g (lw_at lw_m5 227 rfl) rfl
theorem q1256 : (Jvm.Cond.instanceMethod ({ cls := "LampLeaseOffice", name := "leasesOf", desc := "(I)I" } : Jvm.MethodName)) ∈ lw_all := lw_g (lw_at lw_m5 232 rfl) rfl
theorem q1257 : (Jvm.Cond.selects "LampLeaseOffice" ({ cls := "LampLeaseOffice", name := "leasesOf", desc := "(I)I" } : Jvm.MethodName) ({ cls := "LampLeaseOffice", name := "leasesOf", desc := "(I)I" } : Jvm.MethodName)) ∈ lw_all := lw_g (lw_at lw_m5 233 rfl) rfl
theorem q1258 : (Jvm.Cond.code ({ cls := "LampLeaseOffice", name := "leasesOf", desc := "(I)I" } : Jvm.MethodName) prog_1_method_23_code (2 : Nat) (Option.some Jvm.ClassFile.FieldType.int)) ∈ lw_all := lw_g (lw_at lw_m5 234 rfl) rfl
theorem q1259 : (Jvm.Cond.methodLink "LampLeaseOffice" (127 : Nat) ({ cls := "LampLeaseOffice$State", name := "leasesOf", desc := "(I)I" } : Jvm.MethodName)) ∈ lw_all := lw_g (lw_at lw_m5 235 rfl) rfl
theorem q1264 : (Jvm.Cond.instanceMethod ({ cls := "LampLeaseOffice", name := "level", desc := "(I)I" } : Jvm.MethodName)) ∈ lw_all := lw_g (lw_at lw_m6 0 rfl) rfl
theorem q1265 : (Jvm.Cond.selects "LampLeaseOffice" ({ cls := "LampLeaseOffice", name := "level", desc := "(I)I" } : Jvm.MethodName) ({ cls := "LampLeaseOffice", name := "level", desc := "(I)I" } : Jvm.MethodName)) ∈ lw_all := lw_g (lw_at lw_m6 1 rfl) rfl
theorem q1266 : (Jvm.Cond.code ({ cls := "LampLeaseOffice", name := "level", desc := "(I)I" } : Jvm.MethodName) prog_1_method_25_code (2 : Nat) (Option.some Jvm.ClassFile.FieldType.int)) ∈ lw_all := lw_g (lw_at lw_m6 2 rfl) rfl
theorem q1267 : (Jvm.Cond.methodLink "LampLeaseOffice" (133 : Nat) ({ cls := "LampLeaseOffice$State", name := "lamp", desc := "(I)LLampLeaseOffice$Lamp;" } : Jvm.MethodName)) ∈ lw_all := lw_g (lw_at lw_m6 3 rfl) rfl
theorem q1272 : (Jvm.Cond.instanceMethod ({ cls := "LampLeaseOffice", name := "isLeased", desc := "(I)Z" } : Jvm.MethodName)) ∈ lw_all := lw_g (lw_at lw_m6 8 rfl) rfl
theorem q1273 : (Jvm.Cond.selects "LampLeaseOffice" ({ cls := "LampLeaseOffice", name := "isLeased", desc := "(I)Z" } : Jvm.MethodName) ({ cls := "LampLeaseOffice", name := "isLeased", desc := "(I)Z" } : Jvm.MethodName)) ∈ lw_all := lw_g (lw_at lw_m6 9 rfl) rfl
theorem q1274 : (Jvm.Cond.code ({ cls := "LampLeaseOffice", name := "isLeased", desc := "(I)Z" } : Jvm.MethodName) prog_1_method_26_code (2 : Nat) (Option.some Jvm.ClassFile.FieldType.boolean)) ∈ lw_all := lw_g (lw_at lw_m6 10 rfl) rfl
theorem q1279 : (Jvm.Cond.instanceMethod ({ cls := "LampLeaseOffice", name := "lessee", desc := "(I)I" } : Jvm.MethodName)) ∈ lw_all := lw_g (lw_at lw_m6 15 rfl) rfl
theorem q1280 : (Jvm.Cond.selects "LampLeaseOffice" ({ cls := "LampLeaseOffice", name := "lessee", desc := "(I)I" } : Jvm.MethodName) ({ cls := "LampLeaseOffice", name := "lessee", desc := "(I)I" } : Jvm.MethodName)) ∈ lw_all := lw_g (lw_at lw_m6 16 rfl) rfl
theorem q1281 : (Jvm.Cond.code ({ cls := "LampLeaseOffice", name := "lessee", desc := "(I)I" } : Jvm.MethodName) prog_1_method_27_code (2 : Nat) (Option.some Jvm.ClassFile.FieldType.int)) ∈ lw_all := lw_g (lw_at lw_m6 17 rfl) rfl
theorem q1282 : (Jvm.Cond.methodLink "LampLeaseOffice" (146 : Nat) ({ cls := "LampLeaseOffice$State", name := "leasedLamp", desc := "(I)LLampLeaseOffice$Lamp;" } : Jvm.MethodName)) ∈ lw_all := lw_g (lw_at lw_m6 18 rfl) rfl
theorem q1287 : (Jvm.Cond.instanceMethod ({ cls := "LampLeaseOffice", name := "endHour", desc := "(I)I" } : Jvm.MethodName)) ∈ lw_all := lw_g (lw_at lw_m6 23 rfl) rfl
theorem q1288 : (Jvm.Cond.selects "LampLeaseOffice" ({ cls := "LampLeaseOffice", name := "endHour", desc := "(I)I" } : Jvm.MethodName) ({ cls := "LampLeaseOffice", name := "endHour", desc := "(I)I" } : Jvm.MethodName)) ∈ lw_all := lw_g (lw_at lw_m6 24 rfl) rfl
theorem q1289 : (Jvm.Cond.code ({ cls := "LampLeaseOffice", name := "endHour", desc := "(I)I" } : Jvm.MethodName) prog_1_method_28_code (2 : Nat) (Option.some Jvm.ClassFile.FieldType.int)) ∈ lw_all := lw_g (lw_at lw_m6 25 rfl) rfl
theorem q1294 : (Jvm.Cond.instanceMethod ({ cls := "LampLeaseOffice", name := "brightHours", desc := "(I)I" } : Jvm.MethodName)) ∈ lw_all := lw_g (lw_at lw_m6 30 rfl) rfl
theorem q1295 : (Jvm.Cond.selects "LampLeaseOffice" ({ cls := "LampLeaseOffice", name := "brightHours", desc := "(I)I" } : Jvm.MethodName) ({ cls := "LampLeaseOffice", name := "brightHours", desc := "(I)I" } : Jvm.MethodName)) ∈ lw_all := lw_g (lw_at lw_m6 31 rfl) rfl
theorem q1296 : (Jvm.Cond.code ({ cls := "LampLeaseOffice", name := "brightHours", desc := "(I)I" } : Jvm.MethodName) prog_1_method_29_code (2 : Nat) (Option.some Jvm.ClassFile.FieldType.int)) ∈ lw_all := lw_g (lw_at lw_m6 32 rfl) rfl
theorem q1301 : (Jvm.Cond.instanceMethod ({ cls := "LampLeaseOffice", name := "wasBright", desc := "(I)Z" } : Jvm.MethodName)) ∈ lw_all := lw_g (lw_at lw_m6 37 rfl) rfl
theorem q1302 : (Jvm.Cond.selects "LampLeaseOffice" ({ cls := "LampLeaseOffice", name := "wasBright", desc := "(I)Z" } : Jvm.MethodName) ({ cls := "LampLeaseOffice", name := "wasBright", desc := "(I)Z" } : Jvm.MethodName)) ∈ lw_all := lw_g (lw_at lw_m6 38 rfl) rfl
theorem q1303 : (Jvm.Cond.code ({ cls := "LampLeaseOffice", name := "wasBright", desc := "(I)Z" } : Jvm.MethodName) prog_1_method_30_code (2 : Nat) (Option.some Jvm.ClassFile.FieldType.boolean)) ∈ lw_all := lw_g (lw_at lw_m6 39 rfl) rfl
theorem q1308 : (Jvm.Cond.instanceMethod ({ cls := "LampLeaseOffice", name := "hoursOfOil", desc := "()I" } : Jvm.MethodName)) ∈ lw_all := lw_g (lw_at lw_m6 44 rfl) rfl
theorem q1309 : (Jvm.Cond.selects "LampLeaseOffice" ({ cls := "LampLeaseOffice", name := "hoursOfOil", desc := "()I" } : Jvm.MethodName) ({ cls := "LampLeaseOffice", name := "hoursOfOil", desc := "()I" } : Jvm.MethodName)) ∈ lw_all := lw_g (lw_at lw_m6 45 rfl) rfl
theorem q1310 : (Jvm.Cond.code ({ cls := "LampLeaseOffice", name := "hoursOfOil", desc := "()I" } : Jvm.MethodName) prog_1_method_35_code (1 : Nat) (Option.some Jvm.ClassFile.FieldType.int)) ∈ lw_all := lw_g (lw_at lw_m6 46 rfl) rfl
theorem q1311 : (Jvm.Cond.methodLink "LampLeaseOffice" (175 : Nat) ({ cls := "LampLeaseOffice$State", name := "burnUntilDark", desc := "()I" } : Jvm.MethodName)) ∈ lw_all := lw_g (lw_at lw_m6 47 rfl) rfl
theorem q1316 : (Jvm.Cond.methodLink "LampLeaseOffice" (178 : Nat) ({ cls := "LampLeaseOffice", name := "requireHours", desc := "(I)I" } : Jvm.MethodName)) ∈ lw_all := lw_g (lw_at lw_m6 52 rfl) rfl
theorem q1317 : (Jvm.Cond.static ({ cls := "LampLeaseOffice", name := "requireHours", desc := "(I)I" } : Jvm.MethodName)) ∈ lw_all := lw_g (lw_at lw_m6 53 rfl) rfl
theorem q1318 : (Jvm.Cond.code ({ cls := "LampLeaseOffice", name := "requireHours", desc := "(I)I" } : Jvm.MethodName) prog_1_method_34_code (1 : Nat) (Option.some Jvm.ClassFile.FieldType.int)) ∈ lw_all := lw_g (lw_at lw_m6 54 rfl) rfl
theorem q1319 : (Jvm.Cond.methodLink "LampLeaseOffice" (171 : Nat) ({ cls := "LampLeaseOffice", name := "requireElement", desc := "(Z)V" } : Jvm.MethodName)) ∈ lw_all := lw_g (lw_at lw_m6 55 rfl) rfl
theorem q1324 : (Jvm.Cond.instanceMethod ({ cls := "LampLeaseOffice", name := "hoursOfOilByEnds", desc := "()I" } : Jvm.MethodName)) ∈ lw_all := lw_g (lw_at lw_m6 60 rfl) rfl
theorem q1325 : (Jvm.Cond.selects "LampLeaseOffice" ({ cls := "LampLeaseOffice", name := "hoursOfOilByEnds", desc := "()I" } : Jvm.MethodName) ({ cls := "LampLeaseOffice", name := "hoursOfOilByEnds", desc := "()I" } : Jvm.MethodName)) ∈ lw_all := lw_g (lw_at lw_m6 61 rfl) rfl
theorem q1326 : (Jvm.Cond.code ({ cls := "LampLeaseOffice", name := "hoursOfOilByEnds", desc := "()I" } : Jvm.MethodName) prog_1_method_36_code (1 : Nat) (Option.some Jvm.ClassFile.FieldType.int)) ∈ lw_all := lw_g (lw_at lw_m6 62 rfl) rfl
theorem q1327 : (Jvm.Cond.methodLink "LampLeaseOffice" (181 : Nat) ({ cls := "LampLeaseOffice$State", name := "hoursByEnds", desc := "()I" } : Jvm.MethodName)) ∈ lw_all := lw_g (lw_at lw_m6 63 rfl) rfl
theorem q1343 : (Jvm.Cond.instanceMethod ({ cls := "LampLeaseOffice", name := "share", desc := "(I)I" } : Jvm.MethodName)) ∈ lw_all := lw_g (lw_at lw_m6 79 rfl) rfl
theorem q1344 : (Jvm.Cond.selects "LampLeaseOffice" ({ cls := "LampLeaseOffice", name := "share", desc := "(I)I" } : Jvm.MethodName) ({ cls := "LampLeaseOffice", name := "share", desc := "(I)I" } : Jvm.MethodName)) ∈ lw_all := lw_g (lw_at lw_m6 80 rfl) rfl
theorem q1345 : (Jvm.Cond.code ({ cls := "LampLeaseOffice", name := "share", desc := "(I)I" } : Jvm.MethodName) prog_1_method_40_code (2 : Nat) (Option.some Jvm.ClassFile.FieldType.int)) ∈ lw_all := lw_g (lw_at lw_m6 81 rfl) rfl
theorem q1350 : (Jvm.Cond.instanceMethod ({ cls := "LampLeaseOffice", name := "shareByRank", desc := "(I)I" } : Jvm.MethodName)) ∈ lw_all := lw_g (lw_at lw_m6 86 rfl) rfl
theorem q1351 : (Jvm.Cond.selects "LampLeaseOffice" ({ cls := "LampLeaseOffice", name := "shareByRank", desc := "(I)I" } : Jvm.MethodName) ({ cls := "LampLeaseOffice", name := "shareByRank", desc := "(I)I" } : Jvm.MethodName)) ∈ lw_all := lw_g (lw_at lw_m6 87 rfl) rfl
theorem q1352 : (Jvm.Cond.code ({ cls := "LampLeaseOffice", name := "shareByRank", desc := "(I)I" } : Jvm.MethodName) prog_1_method_41_code (2 : Nat) (Option.some Jvm.ClassFile.FieldType.int)) ∈ lw_all := lw_g (lw_at lw_m6 88 rfl) rfl
theorem q1357 : (Jvm.Cond.instanceMethod ({ cls := "LampLeaseOffice", name := "requestedLamp", desc := "(I)I" } : Jvm.MethodName)) ∈ lw_all := lw_g (lw_at lw_m6 93 rfl) rfl
theorem q1358 : (Jvm.Cond.selects "LampLeaseOffice" ({ cls := "LampLeaseOffice", name := "requestedLamp", desc := "(I)I" } : Jvm.MethodName) ({ cls := "LampLeaseOffice", name := "requestedLamp", desc := "(I)I" } : Jvm.MethodName)) ∈ lw_all := lw_g (lw_at lw_m6 94 rfl) rfl
theorem q1359 : (Jvm.Cond.code ({ cls := "LampLeaseOffice", name := "requestedLamp", desc := "(I)I" } : Jvm.MethodName) prog_1_method_44_code (2 : Nat) (Option.some Jvm.ClassFile.FieldType.int)) ∈ lw_all := lw_g (lw_at lw_m6 95 rfl) rfl
theorem q1360 : (Jvm.Cond.methodLink "LampLeaseOffice" (212 : Nat) ({ cls := "LampLeaseOffice", name := "request", desc := "(I)LLampLeaseOffice$Request;" } : Jvm.MethodName)) ∈ lw_all := lw_g (lw_at lw_m6 96 rfl) rfl
theorem q1361 : (Jvm.Cond.privateMethod ({ cls := "LampLeaseOffice", name := "request", desc := "(I)LLampLeaseOffice$Request;" } : Jvm.MethodName)) ∈ lw_tbl := lw_at lw_m6 97 rfl
theorem q1362 : (Jvm.Cond.instanceMethod ({ cls := "LampLeaseOffice", name := "request", desc := "(I)LLampLeaseOffice$Request;" } : Jvm.MethodName)) ∈ lw_all := lw_g (lw_at lw_m6 98 rfl) rfl
theorem q1363 : (Jvm.Cond.code ({ cls := "LampLeaseOffice", name := "request", desc := "(I)LLampLeaseOffice$Request;" } : Jvm.MethodName) prog_1_method_43_code (2 : Nat) (Option.some (Jvm.ClassFile.FieldType.object "LampLeaseOffice$Request"))) ∈ lw_all := lw_g (lw_at lw_m6 99 rfl) rfl
theorem q1364 : (Jvm.Cond.methodLink "LampLeaseOffice" (203 : Nat) ({ cls := "LampLeaseOffice", name := "isBetween", desc := "(III)Z" } : Jvm.MethodName)) ∈ lw_all := lw_g (lw_at lw_m6 100 rfl) rfl
theorem q1369 : (Jvm.Cond.instanceMethod ({ cls := "LampLeaseOffice", name := "requestedHours", desc := "(I)I" } : Jvm.MethodName)) ∈ lw_all := lw_g (lw_at lw_m6 105 rfl) rfl
theorem q1370 : (Jvm.Cond.selects "LampLeaseOffice" ({ cls := "LampLeaseOffice", name := "requestedHours", desc := "(I)I" } : Jvm.MethodName) ({ cls := "LampLeaseOffice", name := "requestedHours", desc := "(I)I" } : Jvm.MethodName)) ∈ lw_all := lw_g (lw_at lw_m6 106 rfl) rfl
theorem q1371 : (Jvm.Cond.code ({ cls := "LampLeaseOffice", name := "requestedHours", desc := "(I)I" } : Jvm.MethodName) prog_1_method_45_code (2 : Nat) (Option.some Jvm.ClassFile.FieldType.int)) ∈ lw_all := lw_g (lw_at lw_m6 107 rfl) rfl
theorem q1376 : (Jvm.Cond.instanceMethod ({ cls := "LampLeaseOffice", name := "shipByFines", desc := "(I)I" } : Jvm.MethodName)) ∈ lw_all := lw_g (lw_at lw_m6 112 rfl) rfl
theorem q1377 : (Jvm.Cond.selects "LampLeaseOffice" ({ cls := "LampLeaseOffice", name := "shipByFines", desc := "(I)I" } : Jvm.MethodName) ({ cls := "LampLeaseOffice", name := "shipByFines", desc := "(I)I" } : Jvm.MethodName)) ∈ lw_all := lw_g (lw_at lw_m6 113 rfl) rfl
theorem q1378 : (Jvm.Cond.code ({ cls := "LampLeaseOffice", name := "shipByFines", desc := "(I)I" } : Jvm.MethodName) prog_1_method_48_code (5 : Nat) (Option.some Jvm.ClassFile.FieldType.int)) ∈ lw_all := lw_g (lw_at lw_m6 114 rfl) rfl
theorem q1379 : (Jvm.Cond.methodLink "LampLeaseOffice" (226 : Nat) ({ cls := "LampLeaseOffice$Ship", name := "isAheadOf", desc := "(LLampLeaseOffice$Ship;Z)Z" } : Jvm.MethodName)) ∈ lw_all := lw_g (lw_at lw_m6 115 rfl) rfl
theorem q1387 : (Jvm.Cond.instanceMethod ({ cls := "LampLeaseOffice", name := "lampByEnd", desc := "(I)I" } : Jvm.MethodName)) ∈ lw_all := lw_g (lw_at lw_m6 123 rfl) rfl
theorem q1388 : (Jvm.Cond.selects "LampLeaseOffice" ({ cls := "LampLeaseOffice", name := "lampByEnd", desc := "(I)I" } : Jvm.MethodName) ({ cls := "LampLeaseOffice", name := "lampByEnd", desc := "(I)I" } : Jvm.MethodName)) ∈ lw_all := lw_g (lw_at lw_m6 124 rfl) rfl
theorem q1389 : (Jvm.Cond.code ({ cls := "LampLeaseOffice", name := "lampByEnd", desc := "(I)I" } : Jvm.MethodName) prog_1_method_49_code (7 : Nat) (Option.some Jvm.ClassFile.FieldType.int)) ∈ lw_all := lw_g (lw_at lw_m6 125 rfl) rfl
theorem q1390 : (Jvm.Cond.methodLink "LampLeaseOffice" (230 : Nat) ({ cls := "LampLeaseOffice$Lamp", name := "endsSooner", desc := "(LLampLeaseOffice$Lamp;Z)Z" } : Jvm.MethodName)) ∈ lw_all := lw_g (lw_at lw_m6 126 rfl) rfl
theorem q1412 : (Jvm.Cond.instanceMethod ({ cls := "LampLeaseOffice", name := "meanCoins", desc := "()D" } : Jvm.MethodName)) ∈ lw_all := lw_g (lw_at lw_m6 148 rfl) rfl
theorem q1413 : (Jvm.Cond.selects "LampLeaseOffice" ({ cls := "LampLeaseOffice", name := "meanCoins", desc := "()D" } : Jvm.MethodName) ({ cls := "LampLeaseOffice", name := "meanCoins", desc := "()D" } : Jvm.MethodName)) ∈ lw_all := lw_g (lw_at lw_m6 149 rfl) rfl
theorem q1414 : (Jvm.Cond.code ({ cls := "LampLeaseOffice", name := "meanCoins", desc := "()D" } : Jvm.MethodName) prog_1_method_50_code (4 : Nat) (Option.some Jvm.ClassFile.FieldType.double)) ∈ lw_all := lw_g (lw_at lw_m6 150 rfl) rfl
theorem q1415 : (Jvm.Cond.methodLink "LampLeaseOffice" (234 : Nat) ({ cls := "LampLeaseOffice", name := "requireNonZero", desc := "(I)V" } : Jvm.MethodName)) ∈ lw_all := lw_g (lw_at lw_m6 151 rfl) rfl
theorem q1416 : (Jvm.Cond.static ({ cls := "LampLeaseOffice", name := "requireNonZero", desc := "(I)V" } : Jvm.MethodName)) ∈ lw_all := lw_g (lw_at lw_m6 152 rfl) rfl
theorem q1417 : (Jvm.Cond.code ({ cls := "LampLeaseOffice", name := "requireNonZero", desc := "(I)V" } : Jvm.MethodName) prog_1_method_8_code (1 : Nat) (Option.none : Option Jvm.ClassFile.FieldType)) ∈ lw_all := lw_g (lw_at lw_m6 153 rfl) rfl
theorem q1418 : (Jvm.Cond.classLink "LampLeaseOffice" (56 : Nat) "java/lang/ArithmeticException") ∈ lw_all := lw_g (lw_at lw_m6 154 rfl) rfl
theorem q1419 : (Jvm.Cond.methodLink "LampLeaseOffice" (58 : Nat) ({ cls := "java/lang/ArithmeticException", name := "<init>", desc := "()V" } : Jvm.MethodName)) ∈ lw_all := lw_g (lw_at lw_m6 155 rfl) rfl
theorem q1427 : (Jvm.Cond.instanceMethod ({ cls := "LampLeaseOffice", name := "leasedShare", desc := "()F" } : Jvm.MethodName)) ∈ lw_all := lw_g (lw_at lw_m6 163 rfl) rfl
theorem q1428 : (Jvm.Cond.selects "LampLeaseOffice" ({ cls := "LampLeaseOffice", name := "leasedShare", desc := "()F" } : Jvm.MethodName) ({ cls := "LampLeaseOffice", name := "leasedShare", desc := "()F" } : Jvm.MethodName)) ∈ lw_all := lw_g (lw_at lw_m6 164 rfl) rfl
theorem q1429 : (Jvm.Cond.code ({ cls := "LampLeaseOffice", name := "leasedShare", desc := "()F" } : Jvm.MethodName) prog_1_method_51_code (1 : Nat) (Option.some Jvm.ClassFile.FieldType.float)) ∈ lw_all := lw_g (lw_at lw_m6 165 rfl) rfl
theorem q1434 : (Jvm.Cond.instanceMethod ({ cls := "LampLeaseOffice", name := "feed", desc := "(C)I" } : Jvm.MethodName)) ∈ lw_all := lw_g (lw_at lw_m6 170 rfl) rfl
theorem q1435 : (Jvm.Cond.selects "LampLeaseOffice" ({ cls := "LampLeaseOffice", name := "feed", desc := "(C)I" } : Jvm.MethodName) ({ cls := "LampLeaseOffice", name := "feed", desc := "(C)I" } : Jvm.MethodName)) ∈ lw_all := lw_g (lw_at lw_m6 171 rfl) rfl
theorem q1436 : (Jvm.Cond.code ({ cls := "LampLeaseOffice", name := "feed", desc := "(C)I" } : Jvm.MethodName) prog_1_method_53_code (2 : Nat) (Option.some Jvm.ClassFile.FieldType.int)) ∈ lw_all := lw_g (lw_at lw_m6 172 rfl) rfl
theorem q1437 : (Jvm.Cond.methodLink "LampLeaseOffice" (254 : Nat) ({ cls := "LampLeaseOffice", name := "requireState", desc := "(Z)V" } : Jvm.MethodName)) ∈ lw_all := lw_g (lw_at lw_m6 173 rfl) rfl
theorem q1442 : (Jvm.Cond.instanceMethod ({ cls := "LampLeaseOffice", name := "runCommands", desc := "()I" } : Jvm.MethodName)) ∈ lw_all := lw_g (lw_at lw_m6 178 rfl) rfl
theorem q1443 : (Jvm.Cond.selects "LampLeaseOffice" ({ cls := "LampLeaseOffice", name := "runCommands", desc := "()I" } : Jvm.MethodName) ({ cls := "LampLeaseOffice", name := "runCommands", desc := "()I" } : Jvm.MethodName)) ∈ lw_all := lw_g (lw_at lw_m6 179 rfl) rfl
theorem q1444 : (Jvm.Cond.codeWith ({ cls := "LampLeaseOffice", name := "runCommands", desc := "()I" } : Jvm.MethodName) prog_1_method_55_code (2 : Nat) (Option.some Jvm.ClassFile.FieldType.int) [((0 : Nat), (4 : Nat), (5 : Nat), (287 : Nat))]) ∈ lw_all := lw_g (lw_at lw_m6 180 rfl) rfl
theorem q1445 : (Jvm.Cond.classLink "LampLeaseOffice" (287 : Nat) "LampLeaseOffice$TextException") ∈ lw_all := lw_g (lw_at lw_m6 181 rfl) rfl
theorem q1446 : (Jvm.Cond.methodLink "LampLeaseOffice" (284 : Nat) ({ cls := "LampLeaseOffice", name := "carryOutInput", desc := "()I" } : Jvm.MethodName)) ∈ lw_all := lw_g (lw_at lw_m6 182 rfl) rfl
theorem q1447 : (Jvm.Cond.privateMethod ({ cls := "LampLeaseOffice", name := "carryOutInput", desc := "()I" } : Jvm.MethodName)) ∈ lw_tbl := lw_at lw_m6 183 rfl
theorem q1448 : (Jvm.Cond.instanceMethod ({ cls := "LampLeaseOffice", name := "carryOutInput", desc := "()I" } : Jvm.MethodName)) ∈ lw_all := lw_g (lw_at lw_m6 184 rfl) rfl
theorem q1449 : (Jvm.Cond.codeWith ({ cls := "LampLeaseOffice", name := "carryOutInput", desc := "()I" } : Jvm.MethodName) prog_1_method_54_code (4 : Nat) (Option.some Jvm.ClassFile.FieldType.int) [((0 : Nat), (39 : Nat), (46 : Nat), (266 : Nat)), ((0 : Nat), (39 : Nat), (65 : Nat), (279 : Nat)), ((0 : Nat), (39 : Nat), (76 : Nat), (0 : Nat)), ((46 : Nat), (77 : Nat), (76 : Nat), (0 : Nat))]) ∈ lw_all := lw_g (lw_at lw_m6 185 rfl) rfl
theorem q1450 : (Jvm.Cond.classLink "LampLeaseOffice" (266 : Nat) "LampLeaseOffice$CommandException") ∈ lw_all := lw_g (lw_at lw_m6 186 rfl) rfl
theorem q1451 : (Jvm.Cond.classLink "LampLeaseOffice" (279 : Nat) "LampLeaseOffice$MalformedException") ∈ lw_all := lw_g (lw_at lw_m6 187 rfl) rfl
theorem q1452 : (Jvm.Cond.classLink "LampLeaseOffice" (257 : Nat) "LampLeaseOffice$Parser") ∈ lw_all := lw_g (lw_at lw_m6 188 rfl) rfl
theorem q1454 : (Jvm.Cond.methodLinkNest "LampLeaseOffice" (259 : Nat) ({ cls := "LampLeaseOffice$Parser", name := "<init>", desc := "(LLampLeaseOffice;)V" } : Jvm.MethodName) "LampLeaseOffice") ∈ lw_tbl := lw_at lw_m6 190 rfl
theorem q1474 : (Jvm.Cond.methodLink "LampLeaseOffice" (262 : Nat) ({ cls := "LampLeaseOffice$Parser", name := "commands", desc := "(LLampLeaseOffice$State;)I" } : Jvm.MethodName)) ∈ lw_all := lw_g (lw_at lw_m6 210 rfl) rfl
theorem q1549 : (Jvm.Cond.fieldLinkNest "LampLeaseOffice" (281 : Nat) "LampLeaseOffice$MalformedException" "position" "I" "LampLeaseOffice") ∈ lw_tbl := lw_at lw_m7 45 rfl
theorem q1652 : (Jvm.Cond.fieldLinkNest "LampLeaseOffice" (268 : Nat) "LampLeaseOffice$CommandException" "index" "I" "LampLeaseOffice") ∈ lw_tbl := lw_at lw_m7 148 rfl
theorem q1657 : (Jvm.Cond.methodLink "LampLeaseOffice" (271 : Nat) ({ cls := "LampLeaseOffice$CommandException", name := "reason", desc := "()C" } : Jvm.MethodName)) ∈ lw_all := lw_g (lw_at lw_m7 153 rfl) rfl
theorem q1671 : (Jvm.Cond.methodLink "LampLeaseOffice" (289 : Nat) ({ cls := "LampLeaseOffice", name := "requireArgument", desc := "(Z)V" } : Jvm.MethodName)) ∈ lw_all := lw_g (lw_at lw_m7 167 rfl) rfl
theorem q1672 : (Jvm.Cond.classLink "LampLeaseOffice" (53 : Nat) "java/lang/UnsupportedOperationException") ∈ lw_all := lw_g (lw_at lw_m7 168 rfl) rfl
theorem q1673 : (Jvm.Cond.methodLink "LampLeaseOffice" (55 : Nat) ({ cls := "java/lang/UnsupportedOperationException", name := "<init>", desc := "()V" } : Jvm.MethodName)) ∈ lw_all := lw_g (lw_at lw_m7 169 rfl) rfl
theorem q1678 : (Jvm.Cond.instanceMethod ({ cls := "LampLeaseOffice", name := "errorPosition", desc := "()I" } : Jvm.MethodName)) ∈ lw_all := lw_g (lw_at lw_m7 174 rfl) rfl
theorem q1679 : (Jvm.Cond.selects "LampLeaseOffice" ({ cls := "LampLeaseOffice", name := "errorPosition", desc := "()I" } : Jvm.MethodName) ({ cls := "LampLeaseOffice", name := "errorPosition", desc := "()I" } : Jvm.MethodName)) ∈ lw_all := lw_g (lw_at lw_m7 175 rfl) rfl
theorem q1680 : (Jvm.Cond.code ({ cls := "LampLeaseOffice", name := "errorPosition", desc := "()I" } : Jvm.MethodName) prog_1_method_56_code (1 : Nat) (Option.some Jvm.ClassFile.FieldType.int)) ∈ lw_all := lw_g (lw_at lw_m7 176 rfl) rfl
theorem q1685 : (Jvm.Cond.instanceMethod ({ cls := "LampLeaseOffice", name := "failedCommand", desc := "()I" } : Jvm.MethodName)) ∈ lw_all := lw_g (lw_at lw_m7 181 rfl) rfl
theorem q1686 : (Jvm.Cond.selects "LampLeaseOffice" ({ cls := "LampLeaseOffice", name := "failedCommand", desc := "()I" } : Jvm.MethodName) ({ cls := "LampLeaseOffice", name := "failedCommand", desc := "()I" } : Jvm.MethodName)) ∈ lw_all := lw_g (lw_at lw_m7 182 rfl) rfl
theorem q1687 : (Jvm.Cond.code ({ cls := "LampLeaseOffice", name := "failedCommand", desc := "()I" } : Jvm.MethodName) prog_1_method_57_code (1 : Nat) (Option.some Jvm.ClassFile.FieldType.int)) ∈ lw_all := lw_g (lw_at lw_m7 183 rfl) rfl
theorem q1692 : (Jvm.Cond.instanceMethod ({ cls := "LampLeaseOffice", name := "failureReason", desc := "()C" } : Jvm.MethodName)) ∈ lw_all := lw_g (lw_at lw_m7 188 rfl) rfl
theorem q1693 : (Jvm.Cond.selects "LampLeaseOffice" ({ cls := "LampLeaseOffice", name := "failureReason", desc := "()C" } : Jvm.MethodName) ({ cls := "LampLeaseOffice", name := "failureReason", desc := "()C" } : Jvm.MethodName)) ∈ lw_all := lw_g (lw_at lw_m7 189 rfl) rfl
theorem q1694 : (Jvm.Cond.code ({ cls := "LampLeaseOffice", name := "failureReason", desc := "()C" } : Jvm.MethodName) prog_1_method_58_code (1 : Nat) (Option.some Jvm.ClassFile.FieldType.char)) ∈ lw_all := lw_g (lw_at lw_m7 190 rfl) rfl
theorem q1699 : (Jvm.Cond.instanceMethod ({ cls := "LampLeaseOffice", name := "outputChar", desc := "(I)C" } : Jvm.MethodName)) ∈ lw_all := lw_g (lw_at lw_m7 195 rfl) rfl
theorem q1700 : (Jvm.Cond.selects "LampLeaseOffice" ({ cls := "LampLeaseOffice", name := "outputChar", desc := "(I)C" } : Jvm.MethodName) ({ cls := "LampLeaseOffice", name := "outputChar", desc := "(I)C" } : Jvm.MethodName)) ∈ lw_all := lw_g (lw_at lw_m7 196 rfl) rfl
theorem q1701 : (Jvm.Cond.code ({ cls := "LampLeaseOffice", name := "outputChar", desc := "(I)C" } : Jvm.MethodName) prog_1_method_60_code (2 : Nat) (Option.some Jvm.ClassFile.FieldType.char)) ∈ lw_all := lw_g (lw_at lw_m7 197 rfl) rfl
theorem q1702 : (Jvm.Cond.methodLink "LampLeaseOffice" (318 : Nat) ({ cls := "LampLeaseOffice", name := "requireIndex", desc := "(Z)V" } : Jvm.MethodName)) ∈ lw_all := lw_g (lw_at lw_m7 198 rfl) rfl
theorem q1703 : (Jvm.Cond.methodLink "LampLeaseOffice" (321 : Nat) ({ cls := "java/lang/StringBuilder", name := "charAt", desc := "(I)C" } : Jvm.MethodName)) ∈ lw_all := lw_g (lw_at lw_m7 199 rfl) rfl
theorem q1717 : (Jvm.Cond.instanceMethod ({ cls := "LampLeaseOffice", name := "undo", desc := "()I" } : Jvm.MethodName)) ∈ lw_all := lw_g (lw_at lw_m7 213 rfl) rfl
theorem q1718 : (Jvm.Cond.selects "LampLeaseOffice" ({ cls := "LampLeaseOffice", name := "undo", desc := "()I" } : Jvm.MethodName) ({ cls := "LampLeaseOffice", name := "undo", desc := "()I" } : Jvm.MethodName)) ∈ lw_all := lw_g (lw_at lw_m7 214 rfl) rfl
theorem q1719 : (Jvm.Cond.code ({ cls := "LampLeaseOffice", name := "undo", desc := "()I" } : Jvm.MethodName) prog_1_method_62_code (1 : Nat) (Option.some Jvm.ClassFile.FieldType.int)) ∈ lw_all := lw_g (lw_at lw_m7 215 rfl) rfl
theorem q1720 : (Jvm.Cond.methodLink "LampLeaseOffice" (325 : Nat) ({ cls := "java/util/ArrayList", name := "isEmpty", desc := "()Z" } : Jvm.MethodName)) ∈ lw_all := lw_g (lw_at lw_m7 216 rfl) rfl
theorem q1728 : (Jvm.Cond.instanceMethod ({ cls := "LampLeaseOffice", name := "restore", desc := "()I" } : Jvm.MethodName)) ∈ lw_all := lw_g (lw_at lw_m7 224 rfl) rfl
theorem q1729 : (Jvm.Cond.selects "LampLeaseOffice" ({ cls := "LampLeaseOffice", name := "restore", desc := "()I" } : Jvm.MethodName) ({ cls := "LampLeaseOffice", name := "restore", desc := "()I" } : Jvm.MethodName)) ∈ lw_all := lw_g (lw_at lw_m7 225 rfl) rfl
theorem q1730 : (Jvm.Cond.code ({ cls := "LampLeaseOffice", name := "restore", desc := "()I" } : Jvm.MethodName) prog_1_method_64_code (1 : Nat) (Option.some Jvm.ClassFile.FieldType.int)) ∈ lw_all := lw_g (lw_at lw_m7 226 rfl) rfl
theorem q1731 : (Jvm.Cond.methodLink "LampLeaseOffice" (331 : Nat) ({ cls := "java/util/ArrayList", name := "clear", desc := "()V" } : Jvm.MethodName)) ∈ lw_all := lw_g (lw_at lw_m7 227 rfl) rfl
theorem q2204 : (Jvm.Cond.castable "LampLeaseOffice" "java/lang/Object") ∈ lw_tbl := lw_at lw_m9 220 rfl
theorem q66 : (Jvm.Cond.initialized "LampLeaseOffice$State") ∈ lw_all := lw_g (lw_at lw_m1 2 rfl) rfl
theorem q113 : (Jvm.Cond.instantiable "LampLeaseOffice$State" (7 : Nat)) ∈ lw_all := lw_g (lw_at lw_m1 49 rfl) rfl
theorem q115 : (Jvm.Cond.instanceMethod ({ cls := "LampLeaseOffice$State", name := "<init>", desc := "()V" } : Jvm.MethodName)) ∈ lw_all := lw_g (lw_at lw_m1 51 rfl) rfl
theorem q116 : (Jvm.Cond.code ({ cls := "LampLeaseOffice$State", name := "<init>", desc := "()V" } : Jvm.MethodName) prog_9_method_1_code (1 : Nat) (Option.none : Option Jvm.ClassFile.FieldType)) ∈ lw_all := lw_g (lw_at lw_m1 52 rfl) rfl
theorem q117 : (Jvm.Cond.methodLink "LampLeaseOffice$State" (3 : Nat) ({ cls := "java/lang/Object", name := "<init>", desc := "()V" } : Jvm.MethodName)) ∈ lw_all := lw_g (lw_at lw_m1 53 rfl) rfl
theorem q118 : (Jvm.Cond.classLink "LampLeaseOffice$State" (9 : Nat) "java/util/ArrayList") ∈ lw_all := lw_g (lw_at lw_m1 54 rfl) rfl
theorem q120 : (Jvm.Cond.methodLink "LampLeaseOffice$State" (11 : Nat) ({ cls := "java/util/ArrayList", name := "<init>", desc := "()V" } : Jvm.MethodName)) ∈ lw_all := lw_g (lw_at lw_m1 56 rfl) rfl
theorem q147 : (Jvm.Cond.fieldLink "LampLeaseOffice$State" (12 : Nat) "LampLeaseOffice$State" "ships" "Ljava/util/ArrayList;") ∈ lw_all := lw_g (lw_at lw_m1 83 rfl) rfl
theorem q149 : (Jvm.Cond.fieldLink "LampLeaseOffice$State" (18 : Nat) "LampLeaseOffice$State" "lamps" "Ljava/util/ArrayList;") ∈ lw_all := lw_g (lw_at lw_m1 85 rfl) rfl
theorem q151 : (Jvm.Cond.fieldLink "LampLeaseOffice$State" (21 : Nat) "LampLeaseOffice$State" "requests" "Ljava/util/ArrayList;") ∈ lw_all := lw_g (lw_at lw_m1 87 rfl) rfl
theorem q153 : (Jvm.Cond.fieldLink "LampLeaseOffice$State" (56 : Nat) "LampLeaseOffice$State" "oil" "I") ∈ lw_all := lw_g (lw_at lw_m1 89 rfl) rfl
theorem q155 : (Jvm.Cond.fieldLink "LampLeaseOffice$State" (60 : Nat) "LampLeaseOffice$State" "hour" "I") ∈ lw_all := lw_g (lw_at lw_m1 91 rfl) rfl
theorem q157 : (Jvm.Cond.fieldLink "LampLeaseOffice$State" (63 : Nat) "LampLeaseOffice$State" "office" "I") ∈ lw_all := lw_g (lw_at lw_m1 93 rfl) rfl
theorem q159 : (Jvm.Cond.fieldLink "LampLeaseOffice$State" (66 : Nat) "LampLeaseOffice$State" "refused" "I") ∈ lw_all := lw_g (lw_at lw_m1 95 rfl) rfl
theorem q161 : (Jvm.Cond.laysFinal "LampLeaseOffice$State" "LampLeaseOffice$State" "ships" "Ljava/util/ArrayList;") ∈ lw_all := lw_g (lw_at lw_m1 97 rfl) rfl
theorem q162 : (Jvm.Cond.soleField "LampLeaseOffice$State" "ships") ∈ lw_all := lw_g (lw_at lw_m1 98 rfl) rfl
theorem q163 : (Jvm.Cond.laysFinal "LampLeaseOffice$State" "LampLeaseOffice$State" "lamps" "Ljava/util/ArrayList;") ∈ lw_all := lw_g (lw_at lw_m1 99 rfl) rfl
theorem q164 : (Jvm.Cond.soleField "LampLeaseOffice$State" "lamps") ∈ lw_all := lw_g (lw_at lw_m1 100 rfl) rfl
theorem q165 : (Jvm.Cond.laysFinal "LampLeaseOffice$State" "LampLeaseOffice$State" "requests" "Ljava/util/ArrayList;") ∈ lw_all := lw_g (lw_at lw_m1 101 rfl) rfl
theorem q166 : (Jvm.Cond.soleField "LampLeaseOffice$State" "requests") ∈ lw_all := lw_g (lw_at lw_m1 102 rfl) rfl
theorem q167 : (Jvm.Cond.lays "LampLeaseOffice$State" "LampLeaseOffice$State" "oil" "I") ∈ lw_all := lw_g (lw_at lw_m1 103 rfl) rfl
theorem q168 : (Jvm.Cond.soleField "LampLeaseOffice$State" "oil") ∈ lw_all := lw_g (lw_at lw_m1 104 rfl) rfl
theorem q169 : (Jvm.Cond.lays "LampLeaseOffice$State" "LampLeaseOffice$State" "hour" "I") ∈ lw_all := lw_g (lw_at lw_m1 105 rfl) rfl
theorem q170 : (Jvm.Cond.soleField "LampLeaseOffice$State" "hour") ∈ lw_all := lw_g (lw_at lw_m1 106 rfl) rfl
theorem q171 : (Jvm.Cond.lays "LampLeaseOffice$State" "LampLeaseOffice$State" "office" "I") ∈ lw_all := lw_g (lw_at lw_m1 107 rfl) rfl
theorem q172 : (Jvm.Cond.soleField "LampLeaseOffice$State" "office") ∈ lw_all := lw_g (lw_at lw_m1 108 rfl) rfl
theorem q173 : (Jvm.Cond.lays "LampLeaseOffice$State" "LampLeaseOffice$State" "refused" "I") ∈ lw_all := lw_g (lw_at lw_m1 109 rfl) rfl
theorem q174 : (Jvm.Cond.soleField "LampLeaseOffice$State" "refused") ∈ lw_all := lw_g (lw_at lw_m1 110 rfl) rfl
theorem q175 : (Jvm.Cond.superclass "LampLeaseOffice$State" "java/lang/Object") ∈ lw_all := lw_g (lw_at lw_m1 111 rfl) rfl
theorem q263 : (Jvm.Cond.instanceMethod ({ cls := "LampLeaseOffice$State", name := "leased", desc := "()I" } : Jvm.MethodName)) ∈ lw_all := lw_g (lw_at lw_m1 199 rfl) rfl
theorem q264 : (Jvm.Cond.selects "LampLeaseOffice$State" ({ cls := "LampLeaseOffice$State", name := "leased", desc := "()I" } : Jvm.MethodName) ({ cls := "LampLeaseOffice$State", name := "leased", desc := "()I" } : Jvm.MethodName)) ∈ lw_all := lw_g (lw_at lw_m1 200 rfl) rfl
theorem q265 : (Jvm.Cond.code ({ cls := "LampLeaseOffice$State", name := "leased", desc := "()I" } : Jvm.MethodName) prog_9_method_6_code (4 : Nat) (Option.some Jvm.ClassFile.FieldType.int)) ∈ lw_all := lw_g (lw_at lw_m1 201 rfl) rfl
theorem q266 : (Jvm.Cond.methodLink "LampLeaseOffice$State" (25 : Nat) ({ cls := "java/util/ArrayList", name := "iterator", desc := "()Ljava/util/Iterator;" } : Jvm.MethodName)) ∈ lw_all := lw_g (lw_at lw_m1 202 rfl) rfl
theorem q289 : (Jvm.Cond.interfaceEntry "LampLeaseOffice$State" (29 : Nat)) ∈ lw_tbl := lw_at lw_m1 225 rfl
theorem q290 : (Jvm.Cond.methodLink "LampLeaseOffice$State" (29 : Nat) ({ cls := "java/util/Iterator", name := "hasNext", desc := "()Z" } : Jvm.MethodName)) ∈ lw_all := lw_g (lw_at lw_m1 226 rfl) rfl
theorem q299 : (Jvm.Cond.interfaceEntry "LampLeaseOffice$State" (35 : Nat)) ∈ lw_tbl := lw_at lw_m1 235 rfl
theorem q300 : (Jvm.Cond.methodLink "LampLeaseOffice$State" (35 : Nat) ({ cls := "java/util/Iterator", name := "next", desc := "()Ljava/lang/Object;" } : Jvm.MethodName)) ∈ lw_all := lw_g (lw_at lw_m1 236 rfl) rfl
theorem q384 : (Jvm.Cond.classLink "LampLeaseOffice$State" (49 : Nat) "LampLeaseOffice$Lamp") ∈ lw_all := lw_g (lw_at lw_m2 80 rfl) rfl
theorem q385 : (Jvm.Cond.methodLink "LampLeaseOffice$State" (89 : Nat) ({ cls := "LampLeaseOffice$Lamp", name := "isLeased", desc := "()Z" } : Jvm.MethodName)) ∈ lw_all := lw_g (lw_at lw_m2 81 rfl) rfl
theorem q398 : (Jvm.Cond.instanceMethod ({ cls := "LampLeaseOffice$State", name := "consumption", desc := "()I" } : Jvm.MethodName)) ∈ lw_all := lw_g (lw_at lw_m2 94 rfl) rfl
theorem q399 : (Jvm.Cond.selects "LampLeaseOffice$State" ({ cls := "LampLeaseOffice$State", name := "consumption", desc := "()I" } : Jvm.MethodName) ({ cls := "LampLeaseOffice$State", name := "consumption", desc := "()I" } : Jvm.MethodName)) ∈ lw_all := lw_g (lw_at lw_m2 95 rfl) rfl
theorem q400 : (Jvm.Cond.code ({ cls := "LampLeaseOffice$State", name := "consumption", desc := "()I" } : Jvm.MethodName) prog_9_method_9_code (4 : Nat) (Option.some Jvm.ClassFile.FieldType.int)) ∈ lw_all := lw_g (lw_at lw_m2 96 rfl) rfl
theorem q406 : (Jvm.Cond.instanceMethod ({ cls := "LampLeaseOffice$State", name := "copy", desc := "()LLampLeaseOffice$State;" } : Jvm.MethodName)) ∈ lw_all := lw_g (lw_at lw_m2 102 rfl) rfl
theorem q407 : (Jvm.Cond.selects "LampLeaseOffice$State" ({ cls := "LampLeaseOffice$State", name := "copy", desc := "()LLampLeaseOffice$State;" } : Jvm.MethodName) ({ cls := "LampLeaseOffice$State", name := "copy", desc := "()LLampLeaseOffice$State;" } : Jvm.MethodName)) ∈ lw_all := lw_g (lw_at lw_m2 103 rfl) rfl
theorem q408 : (Jvm.Cond.code ({ cls := "LampLeaseOffice$State", name := "copy", desc := "()LLampLeaseOffice$State;" } : Jvm.MethodName) prog_9_method_2_code (4 : Nat) (Option.some (Jvm.ClassFile.FieldType.object "LampLeaseOffice$State"))) ∈ lw_all := lw_g (lw_at lw_m2 104 rfl) rfl
theorem q409 : (Jvm.Cond.classLink "LampLeaseOffice$State" (13 : Nat) "LampLeaseOffice$State") ∈ lw_all := lw_g (lw_at lw_m2 105 rfl) rfl
theorem q410 : (Jvm.Cond.methodLink "LampLeaseOffice$State" (24 : Nat) ({ cls := "LampLeaseOffice$State", name := "<init>", desc := "()V" } : Jvm.MethodName)) ∈ lw_all := lw_g (lw_at lw_m2 106 rfl) rfl
theorem q411 : (Jvm.Cond.classLink "LampLeaseOffice$State" (39 : Nat) "LampLeaseOffice$Ship") ∈ lw_all := lw_g (lw_at lw_m2 107 rfl) rfl
theorem q412 : (Jvm.Cond.methodLink "LampLeaseOffice$State" (41 : Nat) ({ cls := "LampLeaseOffice$Ship", name := "copy", desc := "()LLampLeaseOffice$Ship;" } : Jvm.MethodName)) ∈ lw_all := lw_g (lw_at lw_m2 108 rfl) rfl
theorem q435 : (Jvm.Cond.methodLink "LampLeaseOffice$State" (45 : Nat) ({ cls := "java/util/ArrayList", name := "add", desc := "(Ljava/lang/Object;)Z" } : Jvm.MethodName)) ∈ lw_all := lw_g (lw_at lw_m2 131 rfl) rfl
theorem q475 : (Jvm.Cond.selects "LampLeaseOffice$State" ({ cls := "java/lang/Object", name := "getClass", desc := "()Ljava/lang/Class;" } : Jvm.MethodName) ({ cls := "java/lang/Object", name := "getClass", desc := "()Ljava/lang/Class;" } : Jvm.MethodName)) ∈ lw_all := lw_g (lw_at lw_m2 171 rfl) rfl
theorem q505 : (Jvm.Cond.methodLink "LampLeaseOffice$State" (51 : Nat) ({ cls := "LampLeaseOffice$Lamp", name := "copy", desc := "()LLampLeaseOffice$Lamp;" } : Jvm.MethodName)) ∈ lw_all := lw_g (lw_at lw_m2 201 rfl) rfl
theorem q516 : (Jvm.Cond.fieldLinkNest "LampLeaseOffice$State" (99 : Nat) "LampLeaseOffice$Lamp" "level" "I" "LampLeaseOffice") ∈ lw_tbl := lw_at lw_m2 212 rfl
theorem q519 : (Jvm.Cond.fieldLinkNest "LampLeaseOffice$State" (130 : Nat) "LampLeaseOffice$Lamp" "lessee" "I" "LampLeaseOffice") ∈ lw_tbl := lw_at lw_m2 215 rfl
theorem q522 : (Jvm.Cond.fieldLinkNest "LampLeaseOffice$State" (133 : Nat) "LampLeaseOffice$Lamp" "end" "I" "LampLeaseOffice") ∈ lw_tbl := lw_at lw_m2 218 rfl
theorem q527 : (Jvm.Cond.fieldLinkNest "LampLeaseOffice$State" (164 : Nat) "LampLeaseOffice$Lamp" "isBright" "Z" "LampLeaseOffice") ∈ lw_tbl := lw_at lw_m2 223 rfl
theorem q540 : (Jvm.Cond.classLink "LampLeaseOffice$State" (54 : Nat) "LampLeaseOffice$Request") ∈ lw_all := lw_g (lw_at lw_m2 236 rfl) rfl
theorem q542 : (Jvm.Cond.privateMethod ({ cls := "LampLeaseOffice$State", name := "burn", desc := "()I" } : Jvm.MethodName)) ∈ lw_tbl := lw_at lw_m2 238 rfl
theorem q543 : (Jvm.Cond.instanceMethod ({ cls := "LampLeaseOffice$State", name := "burn", desc := "()I" } : Jvm.MethodName)) ∈ lw_all := lw_g (lw_at lw_m2 239 rfl) rfl
theorem q544 : (Jvm.Cond.code ({ cls := "LampLeaseOffice$State", name := "burn", desc := "()I" } : Jvm.MethodName) prog_9_method_20_code (4 : Nat) (Option.some Jvm.ClassFile.FieldType.int)) ∈ lw_all := lw_g (lw_at lw_m3 0 rfl) rfl
theorem q545 : (Jvm.Cond.methodLink "LampLeaseOffice$State" (161 : Nat) ({ cls := "LampLeaseOffice$Lamp", name := "burn", desc := "(I)I" } : Jvm.MethodName)) ∈ lw_all := lw_g (lw_at lw_m3 1 rfl) rfl
theorem q555 : (Jvm.Cond.instanceMethod ({ cls := "LampLeaseOffice$State", name := "mostBright", desc := "()I" } : Jvm.MethodName)) ∈ lw_all := lw_g (lw_at lw_m3 11 rfl) rfl
theorem q556 : (Jvm.Cond.selects "LampLeaseOffice$State" ({ cls := "LampLeaseOffice$State", name := "mostBright", desc := "()I" } : Jvm.MethodName) ({ cls := "LampLeaseOffice$State", name := "mostBright", desc := "()I" } : Jvm.MethodName)) ∈ lw_all := lw_g (lw_at lw_m3 12 rfl) rfl
theorem q557 : (Jvm.Cond.code ({ cls := "LampLeaseOffice$State", name := "mostBright", desc := "()I" } : Jvm.MethodName) prog_9_method_29_code (7 : Nat) (Option.some Jvm.ClassFile.FieldType.int)) ∈ lw_all := lw_g (lw_at lw_m3 13 rfl) rfl
theorem q563 : (Jvm.Cond.instanceMethod ({ cls := "LampLeaseOffice$State", name := "mostBrightBySums", desc := "()I" } : Jvm.MethodName)) ∈ lw_all := lw_g (lw_at lw_m3 19 rfl) rfl
theorem q564 : (Jvm.Cond.selects "LampLeaseOffice$State" ({ cls := "LampLeaseOffice$State", name := "mostBrightBySums", desc := "()I" } : Jvm.MethodName) ({ cls := "LampLeaseOffice$State", name := "mostBrightBySums", desc := "()I" } : Jvm.MethodName)) ∈ lw_all := lw_g (lw_at lw_m3 20 rfl) rfl
theorem q565 : (Jvm.Cond.code ({ cls := "LampLeaseOffice$State", name := "mostBrightBySums", desc := "()I" } : Jvm.MethodName) prog_9_method_30_code (6 : Nat) (Option.some Jvm.ClassFile.FieldType.int)) ∈ lw_all := lw_g (lw_at lw_m3 21 rfl) rfl
theorem q566 : (Jvm.Cond.methodLink "LampLeaseOffice$State" (197 : Nat) ({ cls := "java/lang/Math", name := "max", desc := "(II)I" } : Jvm.MethodName)) ∈ lw_all := lw_g (lw_at lw_m3 22 rfl) rfl
theorem q585 : (Jvm.Cond.instanceMethod ({ cls := "LampLeaseOffice$State", name := "shares", desc := "()[I" } : Jvm.MethodName)) ∈ lw_all := lw_g (lw_at lw_m3 41 rfl) rfl
theorem q586 : (Jvm.Cond.selects "LampLeaseOffice$State" ({ cls := "LampLeaseOffice$State", name := "shares", desc := "()[I" } : Jvm.MethodName) ({ cls := "LampLeaseOffice$State", name := "shares", desc := "()[I" } : Jvm.MethodName)) ∈ lw_all := lw_g (lw_at lw_m3 42 rfl) rfl
theorem q587 : (Jvm.Cond.code ({ cls := "LampLeaseOffice$State", name := "shares", desc := "()[I" } : Jvm.MethodName) prog_9_method_32_code (7 : Nat) (Option.some (Jvm.ClassFile.FieldType.array Jvm.ClassFile.FieldType.int))) ∈ lw_all := lw_g (lw_at lw_m3 43 rfl) rfl
theorem q588 : (Jvm.Cond.methodLink "LampLeaseOffice$State" (206 : Nat) ({ cls := "LampLeaseOffice$State", name := "demands", desc := "()[I" } : Jvm.MethodName)) ∈ lw_all := lw_g (lw_at lw_m3 44 rfl) rfl
theorem q589 : (Jvm.Cond.privateMethod ({ cls := "LampLeaseOffice$State", name := "demands", desc := "()[I" } : Jvm.MethodName)) ∈ lw_tbl := lw_at lw_m3 45 rfl
theorem q590 : (Jvm.Cond.instanceMethod ({ cls := "LampLeaseOffice$State", name := "demands", desc := "()[I" } : Jvm.MethodName)) ∈ lw_all := lw_g (lw_at lw_m3 46 rfl) rfl
theorem q591 : (Jvm.Cond.code ({ cls := "LampLeaseOffice$State", name := "demands", desc := "()[I" } : Jvm.MethodName) prog_9_method_31_code (3 : Nat) (Option.some (Jvm.ClassFile.FieldType.array Jvm.ClassFile.FieldType.int))) ∈ lw_all := lw_g (lw_at lw_m3 47 rfl) rfl
theorem q592 : (Jvm.Cond.methodLink "LampLeaseOffice$State" (69 : Nat) ({ cls := "java/util/ArrayList", name := "size", desc := "()I" } : Jvm.MethodName)) ∈ lw_all := lw_g (lw_at lw_m3 48 rfl) rfl
theorem q593 : (Jvm.Cond.methodLink "LampLeaseOffice$State" (203 : Nat) ({ cls := "LampLeaseOffice$State", name := "demand", desc := "(I)I" } : Jvm.MethodName)) ∈ lw_all := lw_g (lw_at lw_m3 49 rfl) rfl
theorem q594 : (Jvm.Cond.instanceMethod ({ cls := "LampLeaseOffice$State", name := "demand", desc := "(I)I" } : Jvm.MethodName)) ∈ lw_all := lw_g (lw_at lw_m3 50 rfl) rfl
theorem q595 : (Jvm.Cond.selects "LampLeaseOffice$State" ({ cls := "LampLeaseOffice$State", name := "demand", desc := "(I)I" } : Jvm.MethodName) ({ cls := "LampLeaseOffice$State", name := "demand", desc := "(I)I" } : Jvm.MethodName)) ∈ lw_all := lw_g (lw_at lw_m3 51 rfl) rfl
theorem q596 : (Jvm.Cond.code ({ cls := "LampLeaseOffice$State", name := "demand", desc := "(I)I" } : Jvm.MethodName) prog_9_method_8_code (5 : Nat) (Option.some Jvm.ClassFile.FieldType.int)) ∈ lw_all := lw_g (lw_at lw_m3 52 rfl) rfl
theorem q597 : (Jvm.Cond.methodLink "LampLeaseOffice$State" (95 : Nat) ({ cls := "LampLeaseOffice$Lamp", name := "isLeasedTo", desc := "(I)Z" } : Jvm.MethodName)) ∈ lw_all := lw_g (lw_at lw_m3 53 rfl) rfl
theorem q601 : (Jvm.Cond.methodLink "LampLeaseOffice$State" (210 : Nat) ({ cls := "LampLeaseOffice$State", name := "consumption", desc := "()I" } : Jvm.MethodName)) ∈ lw_all := lw_g (lw_at lw_m3 57 rfl) rfl
theorem q618 : (Jvm.Cond.instanceMethod ({ cls := "LampLeaseOffice$State", name := "shareByRank", desc := "(I)I" } : Jvm.MethodName)) ∈ lw_all := lw_g (lw_at lw_m3 74 rfl) rfl
theorem q619 : (Jvm.Cond.selects "LampLeaseOffice$State" ({ cls := "LampLeaseOffice$State", name := "shareByRank", desc := "(I)I" } : Jvm.MethodName) ({ cls := "LampLeaseOffice$State", name := "shareByRank", desc := "(I)I" } : Jvm.MethodName)) ∈ lw_all := lw_g (lw_at lw_m3 75 rfl) rfl
theorem q620 : (Jvm.Cond.code ({ cls := "LampLeaseOffice$State", name := "shareByRank", desc := "(I)I" } : Jvm.MethodName) prog_9_method_33_code (9 : Nat) (Option.some Jvm.ClassFile.FieldType.int)) ∈ lw_all := lw_g (lw_at lw_m3 76 rfl) rfl
theorem q944 : (Jvm.Cond.instanceMethod ({ cls := "LampLeaseOffice$State", name := "isRequested", desc := "(I)Z" } : Jvm.MethodName)) ∈ lw_all := lw_g (lw_at lw_m4 160 rfl) rfl
theorem q945 : (Jvm.Cond.selects "LampLeaseOffice$State" ({ cls := "LampLeaseOffice$State", name := "isRequested", desc := "(I)Z" } : Jvm.MethodName) ({ cls := "LampLeaseOffice$State", name := "isRequested", desc := "(I)Z" } : Jvm.MethodName)) ∈ lw_all := lw_g (lw_at lw_m4 161 rfl) rfl
theorem q946 : (Jvm.Cond.code ({ cls := "LampLeaseOffice$State", name := "isRequested", desc := "(I)Z" } : Jvm.MethodName) prog_9_method_10_code (4 : Nat) (Option.some Jvm.ClassFile.FieldType.boolean)) ∈ lw_all := lw_g (lw_at lw_m4 162 rfl) rfl
theorem q966 : (Jvm.Cond.instanceMethod ({ cls := "LampLeaseOffice$State", name := "addShip", desc := "()I" } : Jvm.MethodName)) ∈ lw_all := lw_g (lw_at lw_m4 182 rfl) rfl
theorem q967 : (Jvm.Cond.selects "LampLeaseOffice$State" ({ cls := "LampLeaseOffice$State", name := "addShip", desc := "()I" } : Jvm.MethodName) ({ cls := "LampLeaseOffice$State", name := "addShip", desc := "()I" } : Jvm.MethodName)) ∈ lw_all := lw_g (lw_at lw_m4 183 rfl) rfl
theorem q968 : (Jvm.Cond.code ({ cls := "LampLeaseOffice$State", name := "addShip", desc := "()I" } : Jvm.MethodName) prog_9_method_11_code (1 : Nat) (Option.some Jvm.ClassFile.FieldType.int)) ∈ lw_all := lw_g (lw_at lw_m4 184 rfl) rfl
theorem q969 : (Jvm.Cond.methodLinkNest "LampLeaseOffice$State" (104 : Nat) ({ cls := "LampLeaseOffice", name := "requireState", desc := "(Z)V" } : Jvm.MethodName) "LampLeaseOffice") ∈ lw_tbl := lw_at lw_m4 185 rfl
theorem q987 : (Jvm.Cond.methodLinkNest "LampLeaseOffice$State" (107 : Nat) ({ cls := "LampLeaseOffice$Ship", name := "<init>", desc := "()V" } : Jvm.MethodName) "LampLeaseOffice") ∈ lw_tbl := lw_at lw_m4 203 rfl
theorem q1011 : (Jvm.Cond.instanceMethod ({ cls := "LampLeaseOffice$State", name := "addLamp", desc := "(I)I" } : Jvm.MethodName)) ∈ lw_all := lw_g (lw_at lw_m4 227 rfl) rfl
theorem q1012 : (Jvm.Cond.selects "LampLeaseOffice$State" ({ cls := "LampLeaseOffice$State", name := "addLamp", desc := "(I)I" } : Jvm.MethodName) ({ cls := "LampLeaseOffice$State", name := "addLamp", desc := "(I)I" } : Jvm.MethodName)) ∈ lw_all := lw_g (lw_at lw_m4 228 rfl) rfl
theorem q1013 : (Jvm.Cond.code ({ cls := "LampLeaseOffice$State", name := "addLamp", desc := "(I)I" } : Jvm.MethodName) prog_9_method_12_code (2 : Nat) (Option.some Jvm.ClassFile.FieldType.int)) ∈ lw_all := lw_g (lw_at lw_m4 229 rfl) rfl
theorem q1014 : (Jvm.Cond.methodLinkNest "LampLeaseOffice$State" (73 : Nat) ({ cls := "LampLeaseOffice", name := "isBetween", desc := "(III)Z" } : Jvm.MethodName) "LampLeaseOffice") ∈ lw_tbl := lw_at lw_m4 230 rfl
theorem q1017 : (Jvm.Cond.methodLinkNest "LampLeaseOffice$State" (108 : Nat) ({ cls := "LampLeaseOffice", name := "requireArgument", desc := "(Z)V" } : Jvm.MethodName) "LampLeaseOffice") ∈ lw_tbl := lw_at lw_m4 233 rfl
theorem q1025 : (Jvm.Cond.methodLink "LampLeaseOffice$State" (111 : Nat) ({ cls := "LampLeaseOffice$Lamp", name := "<init>", desc := "(I)V" } : Jvm.MethodName)) ∈ lw_all := lw_g (lw_at lw_m5 1 rfl) rfl
theorem q1034 : (Jvm.Cond.instanceMethod ({ cls := "LampLeaseOffice$State", name := "addOil", desc := "(I)I" } : Jvm.MethodName)) ∈ lw_all := lw_g (lw_at lw_m5 10 rfl) rfl
theorem q1035 : (Jvm.Cond.selects "LampLeaseOffice$State" ({ cls := "LampLeaseOffice$State", name := "addOil", desc := "(I)I" } : Jvm.MethodName) ({ cls := "LampLeaseOffice$State", name := "addOil", desc := "(I)I" } : Jvm.MethodName)) ∈ lw_all := lw_g (lw_at lw_m5 11 rfl) rfl
theorem q1036 : (Jvm.Cond.code ({ cls := "LampLeaseOffice$State", name := "addOil", desc := "(I)I" } : Jvm.MethodName) prog_9_method_13_code (2 : Nat) (Option.some Jvm.ClassFile.FieldType.int)) ∈ lw_all := lw_g (lw_at lw_m5 12 rfl) rfl
theorem q1049 : (Jvm.Cond.instanceMethod ({ cls := "LampLeaseOffice$State", name := "lease", desc := "(III)I" } : Jvm.MethodName)) ∈ lw_all := lw_g (lw_at lw_m5 25 rfl) rfl
theorem q1050 : (Jvm.Cond.selects "LampLeaseOffice$State" ({ cls := "LampLeaseOffice$State", name := "lease", desc := "(III)I" } : Jvm.MethodName) ({ cls := "LampLeaseOffice$State", name := "lease", desc := "(III)I" } : Jvm.MethodName)) ∈ lw_all := lw_g (lw_at lw_m5 26 rfl) rfl
theorem q1051 : (Jvm.Cond.codeWith ({ cls := "LampLeaseOffice$State", name := "lease", desc := "(III)I" } : Jvm.MethodName) prog_9_method_14_code (7 : Nat) (Option.some Jvm.ClassFile.FieldType.int) [((40 : Nat), (60 : Nat), (63 : Nat), (125 : Nat))]) ∈ lw_all := lw_g (lw_at lw_m5 27 rfl) rfl
theorem q1052 : (Jvm.Cond.classLink "LampLeaseOffice$State" (125 : Nat) "LampLeaseOffice$PoorException") ∈ lw_all := lw_g (lw_at lw_m5 28 rfl) rfl
theorem q1053 : (Jvm.Cond.methodLink "LampLeaseOffice$State" (114 : Nat) ({ cls := "LampLeaseOffice$State", name := "ship", desc := "(I)LLampLeaseOffice$Ship;" } : Jvm.MethodName)) ∈ lw_all := lw_g (lw_at lw_m5 29 rfl) rfl
theorem q1054 : (Jvm.Cond.instanceMethod ({ cls := "LampLeaseOffice$State", name := "ship", desc := "(I)LLampLeaseOffice$Ship;" } : Jvm.MethodName)) ∈ lw_all := lw_g (lw_at lw_m5 30 rfl) rfl
theorem q1055 : (Jvm.Cond.selects "LampLeaseOffice$State" ({ cls := "LampLeaseOffice$State", name := "ship", desc := "(I)LLampLeaseOffice$Ship;" } : Jvm.MethodName) ({ cls := "LampLeaseOffice$State", name := "ship", desc := "(I)LLampLeaseOffice$Ship;" } : Jvm.MethodName)) ∈ lw_all := lw_g (lw_at lw_m5 31 rfl) rfl
theorem q1056 : (Jvm.Cond.code ({ cls := "LampLeaseOffice$State", name := "ship", desc := "(I)LLampLeaseOffice$Ship;" } : Jvm.MethodName) prog_9_method_3_code (2 : Nat) (Option.some (Jvm.ClassFile.FieldType.object "LampLeaseOffice$Ship"))) ∈ lw_all := lw_g (lw_at lw_m5 32 rfl) rfl
theorem q1057 : (Jvm.Cond.methodLinkNest "LampLeaseOffice$State" (77 : Nat) ({ cls := "LampLeaseOffice", name := "requireIndex", desc := "(Z)V" } : Jvm.MethodName) "LampLeaseOffice") ∈ lw_tbl := lw_at lw_m5 33 rfl
theorem q1075 : (Jvm.Cond.methodLink "LampLeaseOffice$State" (81 : Nat) ({ cls := "java/util/ArrayList", name := "get", desc := "(I)Ljava/lang/Object;" } : Jvm.MethodName)) ∈ lw_all := lw_g (lw_at lw_m5 51 rfl) rfl
theorem q1076 : (Jvm.Cond.methodLink "LampLeaseOffice$State" (85 : Nat) ({ cls := "LampLeaseOffice$State", name := "lamp", desc := "(I)LLampLeaseOffice$Lamp;" } : Jvm.MethodName)) ∈ lw_all := lw_g (lw_at lw_m5 52 rfl) rfl
theorem q1077 : (Jvm.Cond.instanceMethod ({ cls := "LampLeaseOffice$State", name := "lamp", desc := "(I)LLampLeaseOffice$Lamp;" } : Jvm.MethodName)) ∈ lw_all := lw_g (lw_at lw_m5 53 rfl) rfl
theorem q1078 : (Jvm.Cond.selects "LampLeaseOffice$State" ({ cls := "LampLeaseOffice$State", name := "lamp", desc := "(I)LLampLeaseOffice$Lamp;" } : Jvm.MethodName) ({ cls := "LampLeaseOffice$State", name := "lamp", desc := "(I)LLampLeaseOffice$Lamp;" } : Jvm.MethodName)) ∈ lw_all := lw_g (lw_at lw_m5 54 rfl) rfl
theorem q1079 : (Jvm.Cond.code ({ cls := "LampLeaseOffice$State", name := "lamp", desc := "(I)LLampLeaseOffice$Lamp;" } : Jvm.MethodName) prog_9_method_4_code (2 : Nat) (Option.some (Jvm.ClassFile.FieldType.object "LampLeaseOffice$Lamp"))) ∈ lw_all := lw_g (lw_at lw_m5 55 rfl) rfl
theorem q1080 : (Jvm.Cond.methodLink "LampLeaseOffice$State" (118 : Nat) ({ cls := "LampLeaseOffice$Lamp", name := "cost", desc := "(I)I" } : Jvm.MethodName)) ∈ lw_all := lw_g (lw_at lw_m5 56 rfl) rfl
theorem q1084 : (Jvm.Cond.methodLink "LampLeaseOffice$State" (122 : Nat) ({ cls := "LampLeaseOffice$Ship", name := "pay", desc := "(I)I" } : Jvm.MethodName)) ∈ lw_all := lw_g (lw_at lw_m5 60 rfl) rfl
theorem q1108 : (Jvm.Cond.classLink "LampLeaseOffice$State" (127 : Nat) "java/lang/UnsupportedOperationException") ∈ lw_all := lw_g (lw_at lw_m5 84 rfl) rfl
theorem q1117 : (Jvm.Cond.methodLink "LampLeaseOffice$State" (129 : Nat) ({ cls := "java/lang/UnsupportedOperationException", name := "<init>", desc := "()V" } : Jvm.MethodName)) ∈ lw_all := lw_g (lw_at lw_m5 93 rfl) rfl
theorem q1132 : (Jvm.Cond.instanceMethod ({ cls := "LampLeaseOffice$State", name := "request", desc := "(II)I" } : Jvm.MethodName)) ∈ lw_all := lw_g (lw_at lw_m5 108 rfl) rfl
theorem q1133 : (Jvm.Cond.selects "LampLeaseOffice$State" ({ cls := "LampLeaseOffice$State", name := "request", desc := "(II)I" } : Jvm.MethodName) ({ cls := "LampLeaseOffice$State", name := "request", desc := "(II)I" } : Jvm.MethodName)) ∈ lw_all := lw_g (lw_at lw_m5 109 rfl) rfl
theorem q1134 : (Jvm.Cond.code ({ cls := "LampLeaseOffice$State", name := "request", desc := "(II)I" } : Jvm.MethodName) prog_9_method_15_code (3 : Nat) (Option.some Jvm.ClassFile.FieldType.int)) ∈ lw_all := lw_g (lw_at lw_m5 110 rfl) rfl
theorem q1135 : (Jvm.Cond.methodLink "LampLeaseOffice$State" (136 : Nat) ({ cls := "LampLeaseOffice$State", name := "leasedLamp", desc := "(I)LLampLeaseOffice$Lamp;" } : Jvm.MethodName)) ∈ lw_all := lw_g (lw_at lw_m5 111 rfl) rfl
theorem q1136 : (Jvm.Cond.instanceMethod ({ cls := "LampLeaseOffice$State", name := "leasedLamp", desc := "(I)LLampLeaseOffice$Lamp;" } : Jvm.MethodName)) ∈ lw_all := lw_g (lw_at lw_m5 112 rfl) rfl
theorem q1137 : (Jvm.Cond.selects "LampLeaseOffice$State" ({ cls := "LampLeaseOffice$State", name := "leasedLamp", desc := "(I)LLampLeaseOffice$Lamp;" } : Jvm.MethodName) ({ cls := "LampLeaseOffice$State", name := "leasedLamp", desc := "(I)LLampLeaseOffice$Lamp;" } : Jvm.MethodName)) ∈ lw_all := lw_g (lw_at lw_m5 113 rfl) rfl
theorem q1138 : (Jvm.Cond.code ({ cls := "LampLeaseOffice$State", name := "leasedLamp", desc := "(I)LLampLeaseOffice$Lamp;" } : Jvm.MethodName) prog_9_method_5_code (3 : Nat) (Option.some (Jvm.ClassFile.FieldType.object "LampLeaseOffice$Lamp"))) ∈ lw_all := lw_g (lw_at lw_m5 114 rfl) rfl
theorem q1139 : (Jvm.Cond.methodLinkNest "LampLeaseOffice$State" (92 : Nat) ({ cls := "LampLeaseOffice", name := "requireElement", desc := "(Z)V" } : Jvm.MethodName) "LampLeaseOffice") ∈ lw_tbl := lw_at lw_m5 115 rfl
theorem q1144 : (Jvm.Cond.methodLink "LampLeaseOffice$State" (139 : Nat) ({ cls := "LampLeaseOffice$State", name := "isRequested", desc := "(I)Z" } : Jvm.MethodName)) ∈ lw_all := lw_g (lw_at lw_m5 120 rfl) rfl
theorem q1146 : (Jvm.Cond.methodLink "LampLeaseOffice$State" (142 : Nat) ({ cls := "LampLeaseOffice$Request", name := "<init>", desc := "(II)V" } : Jvm.MethodName)) ∈ lw_all := lw_g (lw_at lw_m5 122 rfl) rfl
theorem q1151 : (Jvm.Cond.fieldLinkNest "LampLeaseOffice$State" (102 : Nat) "LampLeaseOffice$Request" "lamp" "I" "LampLeaseOffice") ∈ lw_tbl := lw_at lw_m5 127 rfl
theorem q1154 : (Jvm.Cond.fieldLinkNest "LampLeaseOffice$State" (151 : Nat) "LampLeaseOffice$Request" "hours" "I" "LampLeaseOffice") ∈ lw_tbl := lw_at lw_m5 130 rfl
theorem q1169 : (Jvm.Cond.instanceMethod ({ cls := "LampLeaseOffice$State", name := "giveUp", desc := "(I)I" } : Jvm.MethodName)) ∈ lw_all := lw_g (lw_at lw_m5 145 rfl) rfl
theorem q1170 : (Jvm.Cond.selects "LampLeaseOffice$State" ({ cls := "LampLeaseOffice$State", name := "giveUp", desc := "(I)I" } : Jvm.MethodName) ({ cls := "LampLeaseOffice$State", name := "giveUp", desc := "(I)I" } : Jvm.MethodName)) ∈ lw_all := lw_g (lw_at lw_m5 146 rfl) rfl
theorem q1171 : (Jvm.Cond.code ({ cls := "LampLeaseOffice$State", name := "giveUp", desc := "(I)I" } : Jvm.MethodName) prog_9_method_17_code (3 : Nat) (Option.some Jvm.ClassFile.FieldType.int)) ∈ lw_all := lw_g (lw_at lw_m5 147 rfl) rfl
theorem q1172 : (Jvm.Cond.methodLink "LampLeaseOffice$State" (148 : Nat) ({ cls := "LampLeaseOffice$State", name := "endLease", desc := "(I)V" } : Jvm.MethodName)) ∈ lw_all := lw_g (lw_at lw_m5 148 rfl) rfl
theorem q1173 : (Jvm.Cond.privateMethod ({ cls := "LampLeaseOffice$State", name := "endLease", desc := "(I)V" } : Jvm.MethodName)) ∈ lw_tbl := lw_at lw_m5 149 rfl
theorem q1174 : (Jvm.Cond.instanceMethod ({ cls := "LampLeaseOffice$State", name := "endLease", desc := "(I)V" } : Jvm.MethodName)) ∈ lw_all := lw_g (lw_at lw_m5 150 rfl) rfl
theorem q1175 : (Jvm.Cond.code ({ cls := "LampLeaseOffice$State", name := "endLease", desc := "(I)V" } : Jvm.MethodName) prog_9_method_16_code (3 : Nat) (Option.none : Option Jvm.ClassFile.FieldType)) ∈ lw_all := lw_g (lw_at lw_m5 151 rfl) rfl
theorem q1176 : (Jvm.Cond.methodLink "LampLeaseOffice$State" (145 : Nat) ({ cls := "java/util/ArrayList", name := "remove", desc := "(I)Ljava/lang/Object;" } : Jvm.MethodName)) ∈ lw_all := lw_g (lw_at lw_m5 152 rfl) rfl
theorem q1185 : (Jvm.Cond.instanceMethod ({ cls := "LampLeaseOffice$State", name := "passHours", desc := "(I)I" } : Jvm.MethodName)) ∈ lw_all := lw_g (lw_at lw_m5 161 rfl) rfl
theorem q1186 : (Jvm.Cond.selects "LampLeaseOffice$State" ({ cls := "LampLeaseOffice$State", name := "passHours", desc := "(I)I" } : Jvm.MethodName) ({ cls := "LampLeaseOffice$State", name := "passHours", desc := "(I)I" } : Jvm.MethodName)) ∈ lw_all := lw_g (lw_at lw_m5 162 rfl) rfl
theorem q1187 : (Jvm.Cond.code ({ cls := "LampLeaseOffice$State", name := "passHours", desc := "(I)I" } : Jvm.MethodName) prog_9_method_24_code (4 : Nat) (Option.some Jvm.ClassFile.FieldType.int)) ∈ lw_all := lw_g (lw_at lw_m5 163 rfl) rfl
theorem q1188 : (Jvm.Cond.methodLink "LampLeaseOffice$State" (185 : Nat) ({ cls := "LampLeaseOffice$State", name := "passHour", desc := "()I" } : Jvm.MethodName)) ∈ lw_all := lw_g (lw_at lw_m5 164 rfl) rfl
theorem q1189 : (Jvm.Cond.privateMethod ({ cls := "LampLeaseOffice$State", name := "passHour", desc := "()I" } : Jvm.MethodName)) ∈ lw_tbl := lw_at lw_m5 165 rfl
theorem q1190 : (Jvm.Cond.instanceMethod ({ cls := "LampLeaseOffice$State", name := "passHour", desc := "()I" } : Jvm.MethodName)) ∈ lw_all := lw_g (lw_at lw_m5 166 rfl) rfl
theorem q1191 : (Jvm.Cond.code ({ cls := "LampLeaseOffice$State", name := "passHour", desc := "()I" } : Jvm.MethodName) prog_9_method_23_code (3 : Nat) (Option.some Jvm.ClassFile.FieldType.int)) ∈ lw_all := lw_g (lw_at lw_m5 167 rfl) rfl
theorem q1192 : (Jvm.Cond.methodLink "LampLeaseOffice$State" (168 : Nat) ({ cls := "LampLeaseOffice$State", name := "processRequests", desc := "()V" } : Jvm.MethodName)) ∈ lw_all := lw_g (lw_at lw_m5 168 rfl) rfl
theorem q1193 : (Jvm.Cond.privateMethod ({ cls := "LampLeaseOffice$State", name := "processRequests", desc := "()V" } : Jvm.MethodName)) ∈ lw_tbl := lw_at lw_m5 169 rfl
theorem q1194 : (Jvm.Cond.instanceMethod ({ cls := "LampLeaseOffice$State", name := "processRequests", desc := "()V" } : Jvm.MethodName)) ∈ lw_all := lw_g (lw_at lw_m5 170 rfl) rfl
theorem q1195 : (Jvm.Cond.codeWith ({ cls := "LampLeaseOffice$State", name := "processRequests", desc := "()V" } : Jvm.MethodName) prog_9_method_19_code (4 : Nat) (Option.none : Option Jvm.ClassFile.FieldType) [((27 : Nat), (32 : Nat), (35 : Nat), (125 : Nat))]) ∈ lw_all := lw_g (lw_at lw_m5 171 rfl) rfl
theorem q1196 : (Jvm.Cond.methodLink "LampLeaseOffice$State" (154 : Nat) ({ cls := "LampLeaseOffice$State", name := "renew", desc := "(LLampLeaseOffice$Request;)V" } : Jvm.MethodName)) ∈ lw_all := lw_g (lw_at lw_m5 172 rfl) rfl
theorem q1197 : (Jvm.Cond.privateMethod ({ cls := "LampLeaseOffice$State", name := "renew", desc := "(LLampLeaseOffice$Request;)V" } : Jvm.MethodName)) ∈ lw_tbl := lw_at lw_m5 173 rfl
theorem q1198 : (Jvm.Cond.instanceMethod ({ cls := "LampLeaseOffice$State", name := "renew", desc := "(LLampLeaseOffice$Request;)V" } : Jvm.MethodName)) ∈ lw_all := lw_g (lw_at lw_m5 174 rfl) rfl
theorem q1199 : (Jvm.Cond.code ({ cls := "LampLeaseOffice$State", name := "renew", desc := "(LLampLeaseOffice$Request;)V" } : Jvm.MethodName) prog_9_method_18_code (3 : Nat) (Option.none : Option Jvm.ClassFile.FieldType)) ∈ lw_all := lw_g (lw_at lw_m5 175 rfl) rfl
theorem q1200 : (Jvm.Cond.methodLink "LampLeaseOffice$State" (158 : Nat) ({ cls := "java/util/ArrayList", name := "clear", desc := "()V" } : Jvm.MethodName)) ∈ lw_all := lw_g (lw_at lw_m5 176 rfl) rfl
theorem q1204 : (Jvm.Cond.methodLink "LampLeaseOffice$State" (171 : Nat) ({ cls := "LampLeaseOffice$State", name := "burn", desc := "()I" } : Jvm.MethodName)) ∈ lw_all := lw_g (lw_at lw_m5 180 rfl) rfl
theorem q1205 : (Jvm.Cond.methodLink "LampLeaseOffice$State" (173 : Nat) ({ cls := "LampLeaseOffice$State", name := "leasesOf", desc := "(I)I" } : Jvm.MethodName)) ∈ lw_all := lw_g (lw_at lw_m5 181 rfl) rfl
theorem q1206 : (Jvm.Cond.instanceMethod ({ cls := "LampLeaseOffice$State", name := "leasesOf", desc := "(I)I" } : Jvm.MethodName)) ∈ lw_all := lw_g (lw_at lw_m5 182 rfl) rfl
theorem q1207 : (Jvm.Cond.selects "LampLeaseOffice$State" ({ cls := "LampLeaseOffice$State", name := "leasesOf", desc := "(I)I" } : Jvm.MethodName) ({ cls := "LampLeaseOffice$State", name := "leasesOf", desc := "(I)I" } : Jvm.MethodName)) ∈ lw_all := lw_g (lw_at lw_m5 183 rfl) rfl
theorem q1208 : (Jvm.Cond.code ({ cls := "LampLeaseOffice$State", name := "leasesOf", desc := "(I)I" } : Jvm.MethodName) prog_9_method_7_code (5 : Nat) (Option.some Jvm.ClassFile.FieldType.int)) ∈ lw_all := lw_g (lw_at lw_m5 184 rfl) rfl
theorem q1209 : (Jvm.Cond.methodLink "LampLeaseOffice$State" (176 : Nat) ({ cls := "LampLeaseOffice$State", name := "hasLight", desc := "(I)Z" } : Jvm.MethodName)) ∈ lw_all := lw_g (lw_at lw_m5 185 rfl) rfl
theorem q1210 : (Jvm.Cond.privateMethod ({ cls := "LampLeaseOffice$State", name := "hasLight", desc := "(I)Z" } : Jvm.MethodName)) ∈ lw_tbl := lw_at lw_m5 186 rfl
theorem q1211 : (Jvm.Cond.instanceMethod ({ cls := "LampLeaseOffice$State", name := "hasLight", desc := "(I)Z" } : Jvm.MethodName)) ∈ lw_all := lw_g (lw_at lw_m5 187 rfl) rfl
theorem q1212 : (Jvm.Cond.code ({ cls := "LampLeaseOffice$State", name := "hasLight", desc := "(I)Z" } : Jvm.MethodName) prog_9_method_21_code (4 : Nat) (Option.some Jvm.ClassFile.FieldType.boolean)) ∈ lw_all := lw_g (lw_at lw_m5 188 rfl) rfl
theorem q1213 : (Jvm.Cond.methodLink "LampLeaseOffice$State" (179 : Nat) ({ cls := "LampLeaseOffice$Ship", name := "fine", desc := "(I)I" } : Jvm.MethodName)) ∈ lw_all := lw_g (lw_at lw_m5 189 rfl) rfl
theorem q1218 : (Jvm.Cond.methodLink "LampLeaseOffice$State" (182 : Nat) ({ cls := "LampLeaseOffice$State", name := "endLeases", desc := "()I" } : Jvm.MethodName)) ∈ lw_all := lw_g (lw_at lw_m5 194 rfl) rfl
theorem q1219 : (Jvm.Cond.privateMethod ({ cls := "LampLeaseOffice$State", name := "endLeases", desc := "()I" } : Jvm.MethodName)) ∈ lw_tbl := lw_at lw_m5 195 rfl
theorem q1220 : (Jvm.Cond.instanceMethod ({ cls := "LampLeaseOffice$State", name := "endLeases", desc := "()I" } : Jvm.MethodName)) ∈ lw_all := lw_g (lw_at lw_m5 196 rfl) rfl
theorem q1221 : (Jvm.Cond.code ({ cls := "LampLeaseOffice$State", name := "endLeases", desc := "()I" } : Jvm.MethodName) prog_9_method_22_code (3 : Nat) (Option.some Jvm.ClassFile.FieldType.int)) ∈ lw_all := lw_g (lw_at lw_m5 197 rfl) rfl
theorem q1312 : (Jvm.Cond.instanceMethod ({ cls := "LampLeaseOffice$State", name := "burnUntilDark", desc := "()I" } : Jvm.MethodName)) ∈ lw_all := lw_g (lw_at lw_m6 48 rfl) rfl
theorem q1313 : (Jvm.Cond.selects "LampLeaseOffice$State" ({ cls := "LampLeaseOffice$State", name := "burnUntilDark", desc := "()I" } : Jvm.MethodName) ({ cls := "LampLeaseOffice$State", name := "burnUntilDark", desc := "()I" } : Jvm.MethodName)) ∈ lw_all := lw_g (lw_at lw_m6 49 rfl) rfl
theorem q1314 : (Jvm.Cond.code ({ cls := "LampLeaseOffice$State", name := "burnUntilDark", desc := "()I" } : Jvm.MethodName) prog_9_method_25_code (2 : Nat) (Option.some Jvm.ClassFile.FieldType.int)) ∈ lw_all := lw_g (lw_at lw_m6 50 rfl) rfl
theorem q1315 : (Jvm.Cond.methodLink "LampLeaseOffice$State" (188 : Nat) ({ cls := "LampLeaseOffice$State", name := "leased", desc := "()I" } : Jvm.MethodName)) ∈ lw_all := lw_g (lw_at lw_m6 51 rfl) rfl
theorem q1328 : (Jvm.Cond.instanceMethod ({ cls := "LampLeaseOffice$State", name := "hoursByEnds", desc := "()I" } : Jvm.MethodName)) ∈ lw_all := lw_g (lw_at lw_m6 64 rfl) rfl
theorem q1329 : (Jvm.Cond.selects "LampLeaseOffice$State" ({ cls := "LampLeaseOffice$State", name := "hoursByEnds", desc := "()I" } : Jvm.MethodName) ({ cls := "LampLeaseOffice$State", name := "hoursByEnds", desc := "()I" } : Jvm.MethodName)) ∈ lw_all := lw_g (lw_at lw_m6 65 rfl) rfl
theorem q1330 : (Jvm.Cond.code ({ cls := "LampLeaseOffice$State", name := "hoursByEnds", desc := "()I" } : Jvm.MethodName) prog_9_method_28_code (5 : Nat) (Option.some Jvm.ClassFile.FieldType.int)) ∈ lw_all := lw_g (lw_at lw_m6 66 rfl) rfl
theorem q1331 : (Jvm.Cond.methodLink "LampLeaseOffice$State" (191 : Nat) ({ cls := "LampLeaseOffice$State", name := "nextEnd", desc := "(I)I" } : Jvm.MethodName)) ∈ lw_all := lw_g (lw_at lw_m6 67 rfl) rfl
theorem q1332 : (Jvm.Cond.privateMethod ({ cls := "LampLeaseOffice$State", name := "nextEnd", desc := "(I)I" } : Jvm.MethodName)) ∈ lw_tbl := lw_at lw_m6 68 rfl
theorem q1333 : (Jvm.Cond.instanceMethod ({ cls := "LampLeaseOffice$State", name := "nextEnd", desc := "(I)I" } : Jvm.MethodName)) ∈ lw_all := lw_g (lw_at lw_m6 69 rfl) rfl
theorem q1334 : (Jvm.Cond.code ({ cls := "LampLeaseOffice$State", name := "nextEnd", desc := "(I)I" } : Jvm.MethodName) prog_9_method_26_code (6 : Nat) (Option.some Jvm.ClassFile.FieldType.int)) ∈ lw_all := lw_g (lw_at lw_m6 70 rfl) rfl
theorem q1335 : (Jvm.Cond.methodLink "LampLeaseOffice$State" (194 : Nat) ({ cls := "LampLeaseOffice$State", name := "consumptionAfter", desc := "(I)I" } : Jvm.MethodName)) ∈ lw_all := lw_g (lw_at lw_m6 71 rfl) rfl
theorem q1336 : (Jvm.Cond.privateMethod ({ cls := "LampLeaseOffice$State", name := "consumptionAfter", desc := "(I)I" } : Jvm.MethodName)) ∈ lw_tbl := lw_at lw_m6 72 rfl
theorem q1337 : (Jvm.Cond.instanceMethod ({ cls := "LampLeaseOffice$State", name := "consumptionAfter", desc := "(I)I" } : Jvm.MethodName)) ∈ lw_all := lw_g (lw_at lw_m6 73 rfl) rfl
theorem q1338 : (Jvm.Cond.code ({ cls := "LampLeaseOffice$State", name := "consumptionAfter", desc := "(I)I" } : Jvm.MethodName) prog_9_method_27_code (5 : Nat) (Option.some Jvm.ClassFile.FieldType.int)) ∈ lw_all := lw_g (lw_at lw_m6 74 rfl) rfl
theorem q2205 : (Jvm.Cond.castable "LampLeaseOffice$State" "java/lang/Object") ∈ lw_tbl := lw_at lw_m9 221 rfl
theorem q67 : (Jvm.Cond.initialized "java/util/AbstractCollection") ∈ lw_all := lw_g (lw_at lw_m1 3 rfl) rfl
theorem q127 : (Jvm.Cond.instanceMethod ({ cls := "java/util/AbstractCollection", name := "<init>", desc := "()V" } : Jvm.MethodName)) ∈ lw_all := lw_g (lw_at lw_m1 63 rfl) rfl
theorem q128 : (Jvm.Cond.code ({ cls := "java/util/AbstractCollection", name := "<init>", desc := "()V" } : Jvm.MethodName) prog_41_method_1_code (1 : Nat) (Option.none : Option Jvm.ClassFile.FieldType)) ∈ lw_all := lw_g (lw_at lw_m1 64 rfl) rfl
theorem q129 : (Jvm.Cond.methodLink "java/util/AbstractCollection" (1 : Nat) ({ cls := "java/lang/Object", name := "<init>", desc := "()V" } : Jvm.MethodName)) ∈ lw_all := lw_g (lw_at lw_m1 65 rfl) rfl
theorem q68 : (Jvm.Cond.initialized "java/util/AbstractList") ∈ lw_all := lw_g (lw_at lw_m1 4 rfl) rfl
theorem q124 : (Jvm.Cond.instanceMethod ({ cls := "java/util/AbstractList", name := "<init>", desc := "()V" } : Jvm.MethodName)) ∈ lw_all := lw_g (lw_at lw_m1 60 rfl) rfl
theorem q125 : (Jvm.Cond.code ({ cls := "java/util/AbstractList", name := "<init>", desc := "()V" } : Jvm.MethodName) prog_42_method_1_code (1 : Nat) (Option.none : Option Jvm.ClassFile.FieldType)) ∈ lw_all := lw_g (lw_at lw_m1 61 rfl) rfl
theorem q126 : (Jvm.Cond.methodLink "java/util/AbstractList" (1 : Nat) ({ cls := "java/util/AbstractCollection", name := "<init>", desc := "()V" } : Jvm.MethodName)) ∈ lw_all := lw_g (lw_at lw_m1 62 rfl) rfl
theorem q136 : (Jvm.Cond.fieldLink "java/util/AbstractList" (7 : Nat) "java/util/AbstractList" "modCount" "I") ∈ lw_all := lw_g (lw_at lw_m1 72 rfl) rfl
theorem q145 : (Jvm.Cond.soleField "java/util/AbstractList" "modCount") ∈ lw_all := lw_g (lw_at lw_m1 81 rfl) rfl
theorem q69 : (Jvm.Cond.initialized "java/util/ArrayList") ∈ lw_all := lw_g (lw_at lw_m1 5 rfl) rfl
theorem q119 : (Jvm.Cond.instantiable "java/util/ArrayList" (3 : Nat)) ∈ lw_all := lw_g (lw_at lw_m1 55 rfl) rfl
theorem q121 : (Jvm.Cond.instanceMethod ({ cls := "java/util/ArrayList", name := "<init>", desc := "()V" } : Jvm.MethodName)) ∈ lw_all := lw_g (lw_at lw_m1 57 rfl) rfl
theorem q122 : (Jvm.Cond.code ({ cls := "java/util/ArrayList", name := "<init>", desc := "()V" } : Jvm.MethodName) prog_43_method_2_code (1 : Nat) (Option.none : Option Jvm.ClassFile.FieldType)) ∈ lw_all := lw_g (lw_at lw_m1 58 rfl) rfl
theorem q123 : (Jvm.Cond.methodLink "java/util/ArrayList" (1 : Nat) ({ cls := "java/util/AbstractList", name := "<init>", desc := "()V" } : Jvm.MethodName)) ∈ lw_all := lw_g (lw_at lw_m1 59 rfl) rfl
theorem q130 : (Jvm.Cond.fieldLink "java/util/ArrayList" (39 : Nat) "java/util/ArrayList" "DEFAULTCAPACITY_EMPTY_ELEMENTDATA" "[Ljava/lang/Object;") ∈ lw_all := lw_g (lw_at lw_m1 66 rfl) rfl
theorem q131 : (Jvm.Cond.laysStatic "java/util/ArrayList" "DEFAULTCAPACITY_EMPTY_ELEMENTDATA" "[Ljava/lang/Object;") ∈ lw_tbl := lw_at lw_m1 67 rfl
theorem q132 : (Jvm.Cond.fieldLink "java/util/ArrayList" (9 : Nat) "java/util/ArrayList" "elementData" "[Ljava/lang/Object;") ∈ lw_all := lw_g (lw_at lw_m1 68 rfl) rfl
theorem q135 : (Jvm.Cond.fieldLink "java/util/ArrayList" (48 : Nat) "java/util/ArrayList" "size" "I") ∈ lw_all := lw_g (lw_at lw_m1 71 rfl) rfl
theorem q138 : (Jvm.Cond.sameField "java/util/ArrayList" "java/util/AbstractList" "modCount" "I") ∈ lw_all := lw_g (lw_at lw_m1 74 rfl) rfl
theorem q139 : (Jvm.Cond.fieldLink "java/util/ArrayList" (63 : Nat) "java/util/ArrayList" "modCount" "I") ∈ lw_all := lw_g (lw_at lw_m1 75 rfl) rfl
theorem q140 : (Jvm.Cond.lays "java/util/ArrayList" "java/util/ArrayList" "elementData" "[Ljava/lang/Object;") ∈ lw_all := lw_g (lw_at lw_m1 76 rfl) rfl
theorem q141 : (Jvm.Cond.soleField "java/util/ArrayList" "elementData") ∈ lw_all := lw_g (lw_at lw_m1 77 rfl) rfl
theorem q142 : (Jvm.Cond.lays "java/util/ArrayList" "java/util/ArrayList" "size" "I") ∈ lw_all := lw_g (lw_at lw_m1 78 rfl) rfl
theorem q143 : (Jvm.Cond.soleField "java/util/ArrayList" "size") ∈ lw_all := lw_g (lw_at lw_m1 79 rfl) rfl
theorem q144 : (Jvm.Cond.lays "java/util/ArrayList" "java/util/AbstractList" "modCount" "I") ∈ lw_all := lw_g (lw_at lw_m1 80 rfl) rfl
theorem q146 : (Jvm.Cond.superclass "java/util/ArrayList" "java/util/AbstractList") ∈ lw_all := lw_g (lw_at lw_m1 82 rfl) rfl
theorem q251 : (Jvm.Cond.instanceMethod ({ cls := "java/util/ArrayList", name := "size", desc := "()I" } : Jvm.MethodName)) ∈ lw_all := lw_g (lw_at lw_m1 187 rfl) rfl
theorem q252 : (Jvm.Cond.selects "java/util/ArrayList" ({ cls := "java/util/ArrayList", name := "size", desc := "()I" } : Jvm.MethodName) ({ cls := "java/util/ArrayList", name := "size", desc := "()I" } : Jvm.MethodName)) ∈ lw_all := lw_g (lw_at lw_m1 188 rfl) rfl
theorem q253 : (Jvm.Cond.code ({ cls := "java/util/ArrayList", name := "size", desc := "()I" } : Jvm.MethodName) prog_43_method_8_code (1 : Nat) (Option.some Jvm.ClassFile.FieldType.int)) ∈ lw_all := lw_g (lw_at lw_m1 189 rfl) rfl
theorem q267 : (Jvm.Cond.instanceMethod ({ cls := "java/util/ArrayList", name := "iterator", desc := "()Ljava/util/Iterator;" } : Jvm.MethodName)) ∈ lw_all := lw_g (lw_at lw_m1 203 rfl) rfl
theorem q268 : (Jvm.Cond.selects "java/util/ArrayList" ({ cls := "java/util/ArrayList", name := "iterator", desc := "()Ljava/util/Iterator;" } : Jvm.MethodName) ({ cls := "java/util/ArrayList", name := "iterator", desc := "()Ljava/util/Iterator;" } : Jvm.MethodName)) ∈ lw_all := lw_g (lw_at lw_m1 204 rfl) rfl
theorem q269 : (Jvm.Cond.code ({ cls := "java/util/ArrayList", name := "iterator", desc := "()Ljava/util/Iterator;" } : Jvm.MethodName) prog_43_method_55_code (1 : Nat) (Option.some (Jvm.ClassFile.FieldType.object "java/util/Iterator"))) ∈ lw_all := lw_g (lw_at lw_m1 205 rfl) rfl
theorem q270 : (Jvm.Cond.classLink "java/util/ArrayList" (267 : Nat) "java/util/ArrayList$Itr") ∈ lw_all := lw_g (lw_at lw_m1 206 rfl) rfl
theorem q272 : (Jvm.Cond.methodLink "java/util/ArrayList" (269 : Nat) ({ cls := "java/util/ArrayList$Itr", name := "<init>", desc := "(Ljava/util/ArrayList;)V" } : Jvm.MethodName)) ∈ lw_all := lw_g (lw_at lw_m1 208 rfl) rfl
theorem q436 : (Jvm.Cond.instanceMethod ({ cls := "java/util/ArrayList", name := "add", desc := "(Ljava/lang/Object;)Z" } : Jvm.MethodName)) ∈ lw_all := lw_g (lw_at lw_m2 132 rfl) rfl
theorem q437 : (Jvm.Cond.selects "java/util/ArrayList" ({ cls := "java/util/ArrayList", name := "add", desc := "(Ljava/lang/Object;)Z" } : Jvm.MethodName) ({ cls := "java/util/ArrayList", name := "add", desc := "(Ljava/lang/Object;)Z" } : Jvm.MethodName)) ∈ lw_all := lw_g (lw_at lw_m2 133 rfl) rfl
theorem q438 : (Jvm.Cond.code ({ cls := "java/util/ArrayList", name := "add", desc := "(Ljava/lang/Object;)Z" } : Jvm.MethodName) prog_43_method_25_code (2 : Nat) (Option.some Jvm.ClassFile.FieldType.boolean)) ∈ lw_all := lw_g (lw_at lw_m2 134 rfl) rfl
theorem q439 : (Jvm.Cond.methodLink "java/util/ArrayList" (131 : Nat) ({ cls := "java/util/ArrayList", name := "add", desc := "(Ljava/lang/Object;[Ljava/lang/Object;I)V" } : Jvm.MethodName)) ∈ lw_all := lw_g (lw_at lw_m2 135 rfl) rfl
theorem q440 : (Jvm.Cond.privateMethod ({ cls := "java/util/ArrayList", name := "add", desc := "(Ljava/lang/Object;[Ljava/lang/Object;I)V" } : Jvm.MethodName)) ∈ lw_tbl := lw_at lw_m2 136 rfl
theorem q441 : (Jvm.Cond.instanceMethod ({ cls := "java/util/ArrayList", name := "add", desc := "(Ljava/lang/Object;[Ljava/lang/Object;I)V" } : Jvm.MethodName)) ∈ lw_all := lw_g (lw_at lw_m2 137 rfl) rfl
theorem q442 : (Jvm.Cond.code ({ cls := "java/util/ArrayList", name := "add", desc := "(Ljava/lang/Object;[Ljava/lang/Object;I)V" } : Jvm.MethodName) prog_43_method_24_code (4 : Nat) (Option.none : Option Jvm.ClassFile.FieldType)) ∈ lw_all := lw_g (lw_at lw_m2 138 rfl) rfl
theorem q443 : (Jvm.Cond.methodLink "java/util/ArrayList" (129 : Nat) ({ cls := "java/util/ArrayList", name := "grow", desc := "()[Ljava/lang/Object;" } : Jvm.MethodName)) ∈ lw_all := lw_g (lw_at lw_m2 139 rfl) rfl
theorem q444 : (Jvm.Cond.privateMethod ({ cls := "java/util/ArrayList", name := "grow", desc := "()[Ljava/lang/Object;" } : Jvm.MethodName)) ∈ lw_tbl := lw_at lw_m2 140 rfl
theorem q445 : (Jvm.Cond.instanceMethod ({ cls := "java/util/ArrayList", name := "grow", desc := "()[Ljava/lang/Object;" } : Jvm.MethodName)) ∈ lw_all := lw_g (lw_at lw_m2 141 rfl) rfl
theorem q446 : (Jvm.Cond.code ({ cls := "java/util/ArrayList", name := "grow", desc := "()[Ljava/lang/Object;" } : Jvm.MethodName) prog_43_method_7_code (1 : Nat) (Option.some (Jvm.ClassFile.FieldType.array (Jvm.ClassFile.FieldType.object "java/lang/Object")))) ∈ lw_all := lw_g (lw_at lw_m2 142 rfl) rfl
theorem q447 : (Jvm.Cond.methodLink "java/util/ArrayList" (69 : Nat) ({ cls := "java/util/ArrayList", name := "grow", desc := "(I)[Ljava/lang/Object;" } : Jvm.MethodName)) ∈ lw_all := lw_g (lw_at lw_m2 143 rfl) rfl
theorem q448 : (Jvm.Cond.privateMethod ({ cls := "java/util/ArrayList", name := "grow", desc := "(I)[Ljava/lang/Object;" } : Jvm.MethodName)) ∈ lw_tbl := lw_at lw_m2 144 rfl
theorem q449 : (Jvm.Cond.instanceMethod ({ cls := "java/util/ArrayList", name := "grow", desc := "(I)[Ljava/lang/Object;" } : Jvm.MethodName)) ∈ lw_all := lw_g (lw_at lw_m2 145 rfl) rfl
theorem q450 : (Jvm.Cond.code ({ cls := "java/util/ArrayList", name := "grow", desc := "(I)[Ljava/lang/Object;" } : Jvm.MethodName) prog_43_method_6_code (4 : Nat) (Option.some (Jvm.ClassFile.FieldType.array (Jvm.ClassFile.FieldType.object "java/lang/Object")))) ∈ lw_all := lw_g (lw_at lw_m2 146 rfl) rfl
theorem q451 : (Jvm.Cond.methodLink "java/util/ArrayList" (73 : Nat) ({ cls := "jdk/internal/util/ArraysSupport", name := "newLength", desc := "(III)I" } : Jvm.MethodName)) ∈ lw_all := lw_g (lw_at lw_m2 147 rfl) rfl
theorem q461 : (Jvm.Cond.methodLink "java/util/ArrayList" (66 : Nat) ({ cls := "java/util/Arrays", name := "copyOf", desc := "([Ljava/lang/Object;I)[Ljava/lang/Object;" } : Jvm.MethodName)) ∈ lw_all := lw_g (lw_at lw_m2 157 rfl) rfl
theorem q487 : (Jvm.Cond.selects "java/util/ArrayList" ({ cls := "java/lang/Object", name := "getClass", desc := "()Ljava/lang/Class;" } : Jvm.MethodName) ({ cls := "java/lang/Object", name := "getClass", desc := "()Ljava/lang/Class;" } : Jvm.MethodName)) ∈ lw_all := lw_g (lw_at lw_m2 183 rfl) rfl
theorem q503 : (Jvm.Cond.methodLink "java/util/ArrayList" (79 : Nat) ({ cls := "java/lang/Math", name := "max", desc := "(II)I" } : Jvm.MethodName)) ∈ lw_all := lw_g (lw_at lw_m2 199 rfl) rfl
theorem q504 : (Jvm.Cond.classLink "java/util/ArrayList" (7 : Nat) "java/lang/Object") ∈ lw_all := lw_g (lw_at lw_m2 200 rfl) rfl
theorem q603 : (Jvm.Cond.instanceMethod ({ cls := "java/util/ArrayList", name := "get", desc := "(I)Ljava/lang/Object;" } : Jvm.MethodName)) ∈ lw_all := lw_g (lw_at lw_m3 59 rfl) rfl
theorem q604 : (Jvm.Cond.selects "java/util/ArrayList" ({ cls := "java/util/ArrayList", name := "get", desc := "(I)Ljava/lang/Object;" } : Jvm.MethodName) ({ cls := "java/util/ArrayList", name := "get", desc := "(I)Ljava/lang/Object;" } : Jvm.MethodName)) ∈ lw_all := lw_g (lw_at lw_m3 60 rfl) rfl
theorem q605 : (Jvm.Cond.code ({ cls := "java/util/ArrayList", name := "get", desc := "(I)Ljava/lang/Object;" } : Jvm.MethodName) prog_43_method_20_code (2 : Nat) (Option.some (Jvm.ClassFile.FieldType.object "java/lang/Object"))) ∈ lw_all := lw_g (lw_at lw_m3 61 rfl) rfl
theorem q606 : (Jvm.Cond.methodLink "java/util/ArrayList" (118 : Nat) ({ cls := "java/util/Objects", name := "checkIndex", desc := "(II)I" } : Jvm.MethodName)) ∈ lw_all := lw_g (lw_at lw_m3 62 rfl) rfl
theorem q612 : (Jvm.Cond.methodLink "java/util/ArrayList" (123 : Nat) ({ cls := "java/util/ArrayList", name := "elementData", desc := "(I)Ljava/lang/Object;" } : Jvm.MethodName)) ∈ lw_all := lw_g (lw_at lw_m3 68 rfl) rfl
theorem q613 : (Jvm.Cond.instanceMethod ({ cls := "java/util/ArrayList", name := "elementData", desc := "(I)Ljava/lang/Object;" } : Jvm.MethodName)) ∈ lw_all := lw_g (lw_at lw_m3 69 rfl) rfl
theorem q614 : (Jvm.Cond.selects "java/util/ArrayList" ({ cls := "java/util/ArrayList", name := "elementData", desc := "(I)Ljava/lang/Object;" } : Jvm.MethodName) ({ cls := "java/util/ArrayList", name := "elementData", desc := "(I)Ljava/lang/Object;" } : Jvm.MethodName)) ∈ lw_all := lw_g (lw_at lw_m3 70 rfl) rfl
theorem q615 : (Jvm.Cond.code ({ cls := "java/util/ArrayList", name := "elementData", desc := "(I)Ljava/lang/Object;" } : Jvm.MethodName) prog_43_method_18_code (2 : Nat) (Option.some (Jvm.ClassFile.FieldType.object "java/lang/Object"))) ∈ lw_all := lw_g (lw_at lw_m3 71 rfl) rfl
theorem q993 : (Jvm.Cond.instanceMethod ({ cls := "java/util/ArrayList", name := "remove", desc := "(I)Ljava/lang/Object;" } : Jvm.MethodName)) ∈ lw_all := lw_g (lw_at lw_m4 209 rfl) rfl
theorem q994 : (Jvm.Cond.selects "java/util/ArrayList" ({ cls := "java/util/ArrayList", name := "remove", desc := "(I)Ljava/lang/Object;" } : Jvm.MethodName) ({ cls := "java/util/ArrayList", name := "remove", desc := "(I)Ljava/lang/Object;" } : Jvm.MethodName)) ∈ lw_all := lw_g (lw_at lw_m4 210 rfl) rfl
theorem q995 : (Jvm.Cond.code ({ cls := "java/util/ArrayList", name := "remove", desc := "(I)Ljava/lang/Object;" } : Jvm.MethodName) prog_43_method_29_code (4 : Nat) (Option.some (Jvm.ClassFile.FieldType.object "java/lang/Object"))) ∈ lw_all := lw_g (lw_at lw_m4 211 rfl) rfl
theorem q996 : (Jvm.Cond.methodLink "java/util/ArrayList" (144 : Nat) ({ cls := "java/util/ArrayList", name := "fastRemove", desc := "([Ljava/lang/Object;I)V" } : Jvm.MethodName)) ∈ lw_all := lw_g (lw_at lw_m4 212 rfl) rfl
theorem q997 : (Jvm.Cond.privateMethod ({ cls := "java/util/ArrayList", name := "fastRemove", desc := "([Ljava/lang/Object;I)V" } : Jvm.MethodName)) ∈ lw_tbl := lw_at lw_m4 213 rfl
theorem q998 : (Jvm.Cond.instanceMethod ({ cls := "java/util/ArrayList", name := "fastRemove", desc := "([Ljava/lang/Object;I)V" } : Jvm.MethodName)) ∈ lw_all := lw_g (lw_at lw_m4 214 rfl) rfl
theorem q999 : (Jvm.Cond.code ({ cls := "java/util/ArrayList", name := "fastRemove", desc := "([Ljava/lang/Object;I)V" } : Jvm.MethodName) prog_43_method_39_code (4 : Nat) (Option.none : Option Jvm.ClassFile.FieldType)) ∈ lw_all := lw_g (lw_at lw_m4 215 rfl) rfl
theorem q1000 : (Jvm.Cond.methodLink "java/util/ArrayList" (112 : Nat) ({ cls := "java/lang/System", name := "arraycopy", desc := "(Ljava/lang/Object;ILjava/lang/Object;II)V" } : Jvm.MethodName)) ∈ lw_all := lw_g (lw_at lw_m4 216 rfl) rfl
theorem q1201 : (Jvm.Cond.instanceMethod ({ cls := "java/util/ArrayList", name := "clear", desc := "()V" } : Jvm.MethodName)) ∈ lw_all := lw_g (lw_at lw_m5 177 rfl) rfl
theorem q1202 : (Jvm.Cond.selects "java/util/ArrayList" ({ cls := "java/util/ArrayList", name := "clear", desc := "()V" } : Jvm.MethodName) ({ cls := "java/util/ArrayList", name := "clear", desc := "()V" } : Jvm.MethodName)) ∈ lw_all := lw_g (lw_at lw_m5 178 rfl) rfl
theorem q1203 : (Jvm.Cond.code ({ cls := "java/util/ArrayList", name := "clear", desc := "()V" } : Jvm.MethodName) prog_43_method_40_code (4 : Nat) (Option.none : Option Jvm.ClassFile.FieldType)) ∈ lw_all := lw_g (lw_at lw_m5 179 rfl) rfl
theorem q1721 : (Jvm.Cond.instanceMethod ({ cls := "java/util/ArrayList", name := "isEmpty", desc := "()Z" } : Jvm.MethodName)) ∈ lw_all := lw_g (lw_at lw_m7 217 rfl) rfl
theorem q1722 : (Jvm.Cond.selects "java/util/ArrayList" ({ cls := "java/util/ArrayList", name := "isEmpty", desc := "()Z" } : Jvm.MethodName) ({ cls := "java/util/ArrayList", name := "isEmpty", desc := "()Z" } : Jvm.MethodName)) ∈ lw_all := lw_g (lw_at lw_m7 218 rfl) rfl
theorem q1723 : (Jvm.Cond.code ({ cls := "java/util/ArrayList", name := "isEmpty", desc := "()Z" } : Jvm.MethodName) prog_43_method_9_code (1 : Nat) (Option.some Jvm.ClassFile.FieldType.boolean)) ∈ lw_all := lw_g (lw_at lw_m7 219 rfl) rfl
theorem q2206 : (Jvm.Cond.castable "java/util/ArrayList" "java/lang/Object") ∈ lw_tbl := lw_at lw_m9 222 rfl
theorem q70 : (Jvm.Cond.initialized "java/lang/AbstractStringBuilder") ∈ lw_all := lw_g (lw_at lw_m1 6 rfl) rfl
theorem q184 : (Jvm.Cond.instanceMethod ({ cls := "java/lang/AbstractStringBuilder", name := "<init>", desc := "(I)V" } : Jvm.MethodName)) ∈ lw_all := lw_g (lw_at lw_m1 120 rfl) rfl
theorem q185 : (Jvm.Cond.code ({ cls := "java/lang/AbstractStringBuilder", name := "<init>", desc := "(I)V" } : Jvm.MethodName) prog_14_method_2_code (2 : Nat) (Option.none : Option Jvm.ClassFile.FieldType)) ∈ lw_all := lw_g (lw_at lw_m1 121 rfl) rfl
theorem q186 : (Jvm.Cond.methodLink "java/lang/AbstractStringBuilder" (3 : Nat) ({ cls := "java/lang/Object", name := "<init>", desc := "()V" } : Jvm.MethodName)) ∈ lw_all := lw_g (lw_at lw_m1 122 rfl) rfl
theorem q187 : (Jvm.Cond.fieldLink "java/lang/AbstractStringBuilder" (18 : Nat) "java/lang/String" "COMPACT_STRINGS" "Z") ∈ lw_all := lw_g (lw_at lw_m1 123 rfl) rfl
theorem q189 : (Jvm.Cond.methodLink "java/lang/AbstractStringBuilder" (26 : Nat) ({ cls := "java/lang/StringUTF16", name := "newBytesFor", desc := "(I)[B" } : Jvm.MethodName)) ∈ lw_all := lw_g (lw_at lw_m1 125 rfl) rfl
theorem q196 : (Jvm.Cond.fieldLink "java/lang/AbstractStringBuilder" (15 : Nat) "java/lang/AbstractStringBuilder" "value" "[B") ∈ lw_all := lw_g (lw_at lw_m1 132 rfl) rfl
theorem q197 : (Jvm.Cond.fieldLink "java/lang/AbstractStringBuilder" (22 : Nat) "java/lang/AbstractStringBuilder" "coder" "B") ∈ lw_all := lw_g (lw_at lw_m1 133 rfl) rfl
theorem q198 : (Jvm.Cond.fieldLink "java/lang/AbstractStringBuilder" (73 : Nat) "java/lang/AbstractStringBuilder" "maybeLatin1" "Z") ∈ lw_all := lw_g (lw_at lw_m1 134 rfl) rfl
theorem q200 : (Jvm.Cond.fieldLink "java/lang/AbstractStringBuilder" (79 : Nat) "java/lang/AbstractStringBuilder" "count" "I") ∈ lw_all := lw_g (lw_at lw_m1 136 rfl) rfl
theorem q202 : (Jvm.Cond.soleField "java/lang/AbstractStringBuilder" "value") ∈ lw_all := lw_g (lw_at lw_m1 138 rfl) rfl
theorem q204 : (Jvm.Cond.soleField "java/lang/AbstractStringBuilder" "coder") ∈ lw_all := lw_g (lw_at lw_m1 140 rfl) rfl
theorem q206 : (Jvm.Cond.soleField "java/lang/AbstractStringBuilder" "maybeLatin1") ∈ lw_all := lw_g (lw_at lw_m1 142 rfl) rfl
theorem q208 : (Jvm.Cond.soleField "java/lang/AbstractStringBuilder" "count") ∈ lw_all := lw_g (lw_at lw_m1 144 rfl) rfl
theorem q638 : (Jvm.Cond.instanceMethod ({ cls := "java/lang/AbstractStringBuilder", name := "setLength", desc := "(I)V" } : Jvm.MethodName)) ∈ lw_all := lw_g (lw_at lw_m3 94 rfl) rfl
theorem q639 : (Jvm.Cond.code ({ cls := "java/lang/AbstractStringBuilder", name := "setLength", desc := "(I)V" } : Jvm.MethodName) prog_14_method_13_code (2 : Nat) (Option.none : Option Jvm.ClassFile.FieldType)) ∈ lw_all := lw_g (lw_at lw_m3 95 rfl) rfl
theorem q640 : (Jvm.Cond.classLink "java/lang/AbstractStringBuilder" (129 : Nat) "java/lang/StringIndexOutOfBoundsException") ∈ lw_all := lw_g (lw_at lw_m3 96 rfl) rfl
theorem q642 : (Jvm.Cond.methodLink "java/lang/AbstractStringBuilder" (131 : Nat) ({ cls := "java/lang/StringIndexOutOfBoundsException", name := "<init>", desc := "(I)V" } : Jvm.MethodName)) ∈ lw_all := lw_g (lw_at lw_m3 98 rfl) rfl
theorem q653 : (Jvm.Cond.instanceMethod ({ cls := "java/lang/AbstractStringBuilder", name := "append", desc := "(Ljava/lang/String;)Ljava/lang/AbstractStringBuilder;" } : Jvm.MethodName)) ∈ lw_all := lw_g (lw_at lw_m3 109 rfl) rfl
theorem q654 : (Jvm.Cond.code ({ cls := "java/lang/AbstractStringBuilder", name := "append", desc := "(Ljava/lang/String;)Ljava/lang/AbstractStringBuilder;" } : Jvm.MethodName) prog_14_method_22_code (3 : Nat) (Option.some (Jvm.ClassFile.FieldType.object "java/lang/AbstractStringBuilder"))) ∈ lw_all := lw_g (lw_at lw_m3 110 rfl) rfl
theorem q655 : (Jvm.Cond.methodLink "java/lang/AbstractStringBuilder" (204 : Nat) ({ cls := "java/lang/AbstractStringBuilder", name := "appendNull", desc := "()Ljava/lang/AbstractStringBuilder;" } : Jvm.MethodName)) ∈ lw_all := lw_g (lw_at lw_m3 111 rfl) rfl
theorem q656 : (Jvm.Cond.privateMethod ({ cls := "java/lang/AbstractStringBuilder", name := "appendNull", desc := "()Ljava/lang/AbstractStringBuilder;" } : Jvm.MethodName)) ∈ lw_tbl := lw_at lw_m3 112 rfl
theorem q657 : (Jvm.Cond.instanceMethod ({ cls := "java/lang/AbstractStringBuilder", name := "appendNull", desc := "()Ljava/lang/AbstractStringBuilder;" } : Jvm.MethodName)) ∈ lw_all := lw_g (lw_at lw_m3 113 rfl) rfl
theorem q658 : (Jvm.Cond.code ({ cls := "java/lang/AbstractStringBuilder", name := "appendNull", desc := "()Ljava/lang/AbstractStringBuilder;" } : Jvm.MethodName) prog_14_method_26_code (3 : Nat) (Option.some (Jvm.ClassFile.FieldType.object "java/lang/AbstractStringBuilder"))) ∈ lw_all := lw_g (lw_at lw_m3 114 rfl) rfl
theorem q659 : (Jvm.Cond.methodLink "java/lang/AbstractStringBuilder" (100 : Nat) ({ cls := "java/lang/AbstractStringBuilder", name := "ensureCapacityInternal", desc := "(I)V" } : Jvm.MethodName)) ∈ lw_all := lw_g (lw_at lw_m3 115 rfl) rfl
theorem q660 : (Jvm.Cond.privateMethod ({ cls := "java/lang/AbstractStringBuilder", name := "ensureCapacityInternal", desc := "(I)V" } : Jvm.MethodName)) ∈ lw_tbl := lw_at lw_m3 116 rfl
theorem q661 : (Jvm.Cond.instanceMethod ({ cls := "java/lang/AbstractStringBuilder", name := "ensureCapacityInternal", desc := "(I)V" } : Jvm.MethodName)) ∈ lw_all := lw_g (lw_at lw_m3 117 rfl) rfl
theorem q662 : (Jvm.Cond.code ({ cls := "java/lang/AbstractStringBuilder", name := "ensureCapacityInternal", desc := "(I)V" } : Jvm.MethodName) prog_14_method_9_code (3 : Nat) (Option.none : Option Jvm.ClassFile.FieldType)) ∈ lw_all := lw_g (lw_at lw_m3 118 rfl) rfl
theorem q663 : (Jvm.Cond.methodLink "java/lang/AbstractStringBuilder" (104 : Nat) ({ cls := "java/lang/AbstractStringBuilder", name := "newCapacity", desc := "(I)I" } : Jvm.MethodName)) ∈ lw_all := lw_g (lw_at lw_m3 119 rfl) rfl
theorem q664 : (Jvm.Cond.privateMethod ({ cls := "java/lang/AbstractStringBuilder", name := "newCapacity", desc := "(I)I" } : Jvm.MethodName)) ∈ lw_tbl := lw_at lw_m3 120 rfl
theorem q665 : (Jvm.Cond.instanceMethod ({ cls := "java/lang/AbstractStringBuilder", name := "newCapacity", desc := "(I)I" } : Jvm.MethodName)) ∈ lw_all := lw_g (lw_at lw_m3 121 rfl) rfl
theorem q666 : (Jvm.Cond.code ({ cls := "java/lang/AbstractStringBuilder", name := "newCapacity", desc := "(I)I" } : Jvm.MethodName) prog_14_method_10_code (6 : Nat) (Option.some Jvm.ClassFile.FieldType.int)) ∈ lw_all := lw_g (lw_at lw_m3 122 rfl) rfl
theorem q667 : (Jvm.Cond.methodLink "java/lang/AbstractStringBuilder" (114 : Nat) ({ cls := "jdk/internal/util/ArraysSupport", name := "newLength", desc := "(III)I" } : Jvm.MethodName)) ∈ lw_all := lw_g (lw_at lw_m3 123 rfl) rfl
theorem q668 : (Jvm.Cond.constant "java/lang/AbstractStringBuilder" (39 : Nat) (2147483647 : Int32)) ∈ lw_all := lw_g (lw_at lw_m3 124 rfl) rfl
theorem q669 : (Jvm.Cond.methodLink "java/lang/AbstractStringBuilder" (108 : Nat) ({ cls := "java/util/Arrays", name := "copyOf", desc := "([BI)[B" } : Jvm.MethodName)) ∈ lw_all := lw_g (lw_at lw_m3 125 rfl) rfl
theorem q679 : (Jvm.Cond.methodLink "java/lang/AbstractStringBuilder" (83 : Nat) ({ cls := "java/lang/AbstractStringBuilder", name := "isLatin1", desc := "()Z" } : Jvm.MethodName)) ∈ lw_all := lw_g (lw_at lw_m3 135 rfl) rfl
theorem q680 : (Jvm.Cond.instanceMethod ({ cls := "java/lang/AbstractStringBuilder", name := "isLatin1", desc := "()Z" } : Jvm.MethodName)) ∈ lw_all := lw_g (lw_at lw_m3 136 rfl) rfl
theorem q681 : (Jvm.Cond.sameMethod "java/lang/AbstractStringBuilder" "java/lang/AbstractStringBuilder" "isLatin1" "()Z") ∈ lw_all := lw_g (lw_at lw_m3 137 rfl) rfl
theorem q683 : (Jvm.Cond.code ({ cls := "java/lang/AbstractStringBuilder", name := "isLatin1", desc := "()Z" } : Jvm.MethodName) prog_14_method_68_code (1 : Nat) (Option.some Jvm.ClassFile.FieldType.boolean)) ∈ lw_all := lw_g (lw_at lw_m3 139 rfl) rfl
theorem q684 : (Jvm.Cond.methodLink "java/lang/AbstractStringBuilder" (226 : Nat) ({ cls := "java/lang/StringUTF16", name := "putCharsAt", desc := "([BICCCC)I" } : Jvm.MethodName)) ∈ lw_all := lw_g (lw_at lw_m3 140 rfl) rfl
theorem q710 : (Jvm.Cond.methodLink "java/lang/AbstractStringBuilder" (32 : Nat) ({ cls := "java/lang/String", name := "length", desc := "()I" } : Jvm.MethodName)) ∈ lw_all := lw_g (lw_at lw_m3 166 rfl) rfl
theorem q719 : (Jvm.Cond.methodLink "java/lang/AbstractStringBuilder" (208 : Nat) ({ cls := "java/lang/AbstractStringBuilder", name := "putStringAt", desc := "(ILjava/lang/String;)V" } : Jvm.MethodName)) ∈ lw_all := lw_g (lw_at lw_m3 175 rfl) rfl
theorem q720 : (Jvm.Cond.privateMethod ({ cls := "java/lang/AbstractStringBuilder", name := "putStringAt", desc := "(ILjava/lang/String;)V" } : Jvm.MethodName)) ∈ lw_tbl := lw_at lw_m3 176 rfl
theorem q721 : (Jvm.Cond.instanceMethod ({ cls := "java/lang/AbstractStringBuilder", name := "putStringAt", desc := "(ILjava/lang/String;)V" } : Jvm.MethodName)) ∈ lw_all := lw_g (lw_at lw_m3 177 rfl) rfl
theorem q722 : (Jvm.Cond.code ({ cls := "java/lang/AbstractStringBuilder", name := "putStringAt", desc := "(ILjava/lang/String;)V" } : Jvm.MethodName) prog_14_method_73_code (3 : Nat) (Option.none : Option Jvm.ClassFile.FieldType)) ∈ lw_all := lw_g (lw_at lw_m3 178 rfl) rfl
theorem q723 : (Jvm.Cond.methodLink "java/lang/AbstractStringBuilder" (397 : Nat) ({ cls := "java/lang/AbstractStringBuilder", name := "inflateIfNeededFor", desc := "(Ljava/lang/String;)V" } : Jvm.MethodName)) ∈ lw_all := lw_g (lw_at lw_m3 179 rfl) rfl
theorem q724 : (Jvm.Cond.privateMethod ({ cls := "java/lang/AbstractStringBuilder", name := "inflateIfNeededFor", desc := "(Ljava/lang/String;)V" } : Jvm.MethodName)) ∈ lw_tbl := lw_at lw_m3 180 rfl
theorem q725 : (Jvm.Cond.instanceMethod ({ cls := "java/lang/AbstractStringBuilder", name := "inflateIfNeededFor", desc := "(Ljava/lang/String;)V" } : Jvm.MethodName)) ∈ lw_all := lw_g (lw_at lw_m3 181 rfl) rfl
theorem q726 : (Jvm.Cond.code ({ cls := "java/lang/AbstractStringBuilder", name := "inflateIfNeededFor", desc := "(Ljava/lang/String;)V" } : Jvm.MethodName) prog_14_method_71_code (2 : Nat) (Option.none : Option Jvm.ClassFile.FieldType)) ∈ lw_all := lw_g (lw_at lw_m3 182 rfl) rfl
theorem q727 : (Jvm.Cond.methodLink "java/lang/AbstractStringBuilder" (40 : Nat) ({ cls := "java/lang/String", name := "coder", desc := "()B" } : Jvm.MethodName)) ∈ lw_all := lw_g (lw_at lw_m3 183 rfl) rfl
theorem q728 : (Jvm.Cond.methodLink "java/lang/AbstractStringBuilder" (195 : Nat) ({ cls := "java/lang/AbstractStringBuilder", name := "inflate", desc := "()V" } : Jvm.MethodName)) ∈ lw_all := lw_g (lw_at lw_m3 184 rfl) rfl
theorem q729 : (Jvm.Cond.privateMethod ({ cls := "java/lang/AbstractStringBuilder", name := "inflate", desc := "()V" } : Jvm.MethodName)) ∈ lw_tbl := lw_at lw_m3 185 rfl
theorem q730 : (Jvm.Cond.instanceMethod ({ cls := "java/lang/AbstractStringBuilder", name := "inflate", desc := "()V" } : Jvm.MethodName)) ∈ lw_all := lw_g (lw_at lw_m3 186 rfl) rfl
theorem q731 : (Jvm.Cond.code ({ cls := "java/lang/AbstractStringBuilder", name := "inflate", desc := "()V" } : Jvm.MethodName) prog_14_method_11_code (2 : Nat) (Option.none : Option Jvm.ClassFile.FieldType)) ∈ lw_all := lw_g (lw_at lw_m3 187 rfl) rfl
theorem q732 : (Jvm.Cond.methodLink "java/lang/AbstractStringBuilder" (125 : Nat) ({ cls := "java/lang/StringLatin1", name := "inflate", desc := "([BI[BII)V" } : Jvm.MethodName)) ∈ lw_all := lw_g (lw_at lw_m3 188 rfl) rfl
theorem q747 : (Jvm.Cond.methodLink "java/lang/AbstractStringBuilder" (399 : Nat) ({ cls := "java/lang/String", name := "getBytes", desc := "([BIB)V" } : Jvm.MethodName)) ∈ lw_all := lw_g (lw_at lw_m3 203 rfl) rfl
theorem q758 : (Jvm.Cond.instanceMethod ({ cls := "java/lang/AbstractStringBuilder", name := "append", desc := "(I)Ljava/lang/AbstractStringBuilder;" } : Jvm.MethodName)) ∈ lw_all := lw_g (lw_at lw_m3 214 rfl) rfl
theorem q759 : (Jvm.Cond.code ({ cls := "java/lang/AbstractStringBuilder", name := "append", desc := "(I)Ljava/lang/AbstractStringBuilder;" } : Jvm.MethodName) prog_14_method_32_code (4 : Nat) (Option.some (Jvm.ClassFile.FieldType.object "java/lang/AbstractStringBuilder"))) ∈ lw_all := lw_g (lw_at lw_m3 215 rfl) rfl
theorem q760 : (Jvm.Cond.methodLink "java/lang/AbstractStringBuilder" (245 : Nat) ({ cls := "java/lang/Integer", name := "stringSize", desc := "(I)I" } : Jvm.MethodName)) ∈ lw_all := lw_g (lw_at lw_m3 216 rfl) rfl
theorem q763 : (Jvm.Cond.methodLink "java/lang/AbstractStringBuilder" (248 : Nat) ({ cls := "java/lang/Integer", name := "getChars", desc := "(II[B)I" } : Jvm.MethodName)) ∈ lw_all := lw_g (lw_at lw_m3 219 rfl) rfl
theorem q770 : (Jvm.Cond.methodLink "java/lang/AbstractStringBuilder" (251 : Nat) ({ cls := "java/lang/StringUTF16", name := "getChars", desc := "(III[B)I" } : Jvm.MethodName)) ∈ lw_all := lw_g (lw_at lw_m3 226 rfl) rfl
theorem q792 : (Jvm.Cond.instanceMethod ({ cls := "java/lang/AbstractStringBuilder", name := "getValue", desc := "()[B" } : Jvm.MethodName)) ∈ lw_all := lw_g (lw_at lw_m4 8 rfl) rfl
theorem q793 : (Jvm.Cond.sameMethod "java/lang/AbstractStringBuilder" "java/lang/AbstractStringBuilder" "getValue" "()[B") ∈ lw_all := lw_g (lw_at lw_m4 9 rfl) rfl
theorem q795 : (Jvm.Cond.code ({ cls := "java/lang/AbstractStringBuilder", name := "getValue", desc := "()[B" } : Jvm.MethodName) prog_14_method_64_code (1 : Nat) (Option.some (Jvm.ClassFile.FieldType.array Jvm.ClassFile.FieldType.byte))) ∈ lw_all := lw_g (lw_at lw_m4 11 rfl) rfl
theorem q797 : (Jvm.Cond.instanceMethod ({ cls := "java/lang/AbstractStringBuilder", name := "length", desc := "()I" } : Jvm.MethodName)) ∈ lw_all := lw_g (lw_at lw_m4 13 rfl) rfl
theorem q798 : (Jvm.Cond.sameMethod "java/lang/AbstractStringBuilder" "java/lang/AbstractStringBuilder" "length" "()I") ∈ lw_all := lw_g (lw_at lw_m4 14 rfl) rfl
theorem q803 : (Jvm.Cond.code ({ cls := "java/lang/AbstractStringBuilder", name := "length", desc := "()I" } : Jvm.MethodName) prog_14_method_6_code (1 : Nat) (Option.some Jvm.ClassFile.FieldType.int)) ∈ lw_all := lw_g (lw_at lw_m4 19 rfl) rfl
theorem q880 : (Jvm.Cond.methodLink "java/lang/AbstractStringBuilder" (133 : Nat) ({ cls := "java/lang/StringLatin1", name := "fillNull", desc := "([BII)V" } : Jvm.MethodName)) ∈ lw_all := lw_g (lw_at lw_m4 96 rfl) rfl
theorem q915 : (Jvm.Cond.methodLink "java/lang/AbstractStringBuilder" (137 : Nat) ({ cls := "java/lang/StringUTF16", name := "fillNull", desc := "([BII)V" } : Jvm.MethodName)) ∈ lw_all := lw_g (lw_at lw_m4 131 rfl) rfl
theorem q928 : (Jvm.Cond.instanceMethod ({ cls := "java/lang/AbstractStringBuilder", name := "append", desc := "(C)Ljava/lang/AbstractStringBuilder;" } : Jvm.MethodName)) ∈ lw_all := lw_g (lw_at lw_m4 144 rfl) rfl
theorem q929 : (Jvm.Cond.code ({ cls := "java/lang/AbstractStringBuilder", name := "append", desc := "(C)Ljava/lang/AbstractStringBuilder;" } : Jvm.MethodName) prog_14_method_31_code (2 : Nat) (Option.some (Jvm.ClassFile.FieldType.object "java/lang/AbstractStringBuilder"))) ∈ lw_all := lw_g (lw_at lw_m4 145 rfl) rfl
theorem q930 : (Jvm.Cond.methodLink "java/lang/AbstractStringBuilder" (191 : Nat) ({ cls := "java/lang/StringLatin1", name := "canEncode", desc := "(C)Z" } : Jvm.MethodName)) ∈ lw_all := lw_g (lw_at lw_m4 146 rfl) rfl
theorem q933 : (Jvm.Cond.methodLink "java/lang/AbstractStringBuilder" (197 : Nat) ({ cls := "java/lang/StringUTF16", name := "putCharSB", desc := "([BII)V" } : Jvm.MethodName)) ∈ lw_all := lw_g (lw_at lw_m4 149 rfl) rfl
theorem q1708 : (Jvm.Cond.instanceMethod ({ cls := "java/lang/AbstractStringBuilder", name := "charAt", desc := "(I)C" } : Jvm.MethodName)) ∈ lw_all := lw_g (lw_at lw_m7 204 rfl) rfl
theorem q1709 : (Jvm.Cond.code ({ cls := "java/lang/AbstractStringBuilder", name := "charAt", desc := "(I)C" } : Jvm.MethodName) prog_14_method_14_code (5 : Nat) (Option.some Jvm.ClassFile.FieldType.char)) ∈ lw_all := lw_g (lw_at lw_m7 205 rfl) rfl
theorem q1710 : (Jvm.Cond.methodLink "java/lang/AbstractStringBuilder" (138 : Nat) ({ cls := "java/lang/Math", name := "min", desc := "(II)I" } : Jvm.MethodName)) ∈ lw_all := lw_g (lw_at lw_m7 206 rfl) rfl
theorem q1711 : (Jvm.Cond.methodLink "java/lang/AbstractStringBuilder" (144 : Nat) ({ cls := "java/lang/String", name := "checkIndex", desc := "(II)V" } : Jvm.MethodName)) ∈ lw_all := lw_g (lw_at lw_m7 207 rfl) rfl
theorem q1712 : (Jvm.Cond.methodLink "java/lang/AbstractStringBuilder" (148 : Nat) ({ cls := "java/lang/StringUTF16", name := "getChar", desc := "([BI)C" } : Jvm.MethodName)) ∈ lw_all := lw_g (lw_at lw_m7 208 rfl) rfl
theorem q2187 : (Jvm.Cond.sameMethod "java/lang/AbstractStringBuilder" "java/lang/AbstractStringBuilder" "setLength" "(I)V") ∈ lw_all := lw_g (lw_at lw_m9 203 rfl) rfl
theorem q2188 : (Jvm.Cond.sameMethod "java/lang/AbstractStringBuilder" "java/lang/AbstractStringBuilder" "append" "(Ljava/lang/String;)Ljava/lang/AbstractStringBuilder;") ∈ lw_all := lw_g (lw_at lw_m9 204 rfl) rfl
theorem q2189 : (Jvm.Cond.sameMethod "java/lang/AbstractStringBuilder" "java/lang/AbstractStringBuilder" "appendNull" "()Ljava/lang/AbstractStringBuilder;") ∈ lw_all := lw_g (lw_at lw_m9 205 rfl) rfl
theorem q2190 : (Jvm.Cond.sameMethod "java/lang/AbstractStringBuilder" "java/lang/AbstractStringBuilder" "ensureCapacityInternal" "(I)V") ∈ lw_all := lw_g (lw_at lw_m9 206 rfl) rfl
theorem q2191 : (Jvm.Cond.sameMethod "java/lang/AbstractStringBuilder" "java/lang/AbstractStringBuilder" "newCapacity" "(I)I") ∈ lw_all := lw_g (lw_at lw_m9 207 rfl) rfl
theorem q2192 : (Jvm.Cond.sameMethod "java/lang/AbstractStringBuilder" "java/lang/AbstractStringBuilder" "putStringAt" "(ILjava/lang/String;)V") ∈ lw_all := lw_g (lw_at lw_m9 208 rfl) rfl
theorem q2193 : (Jvm.Cond.sameMethod "java/lang/AbstractStringBuilder" "java/lang/AbstractStringBuilder" "inflateIfNeededFor" "(Ljava/lang/String;)V") ∈ lw_all := lw_g (lw_at lw_m9 209 rfl) rfl
theorem q2194 : (Jvm.Cond.sameMethod "java/lang/AbstractStringBuilder" "java/lang/AbstractStringBuilder" "inflate" "()V") ∈ lw_all := lw_g (lw_at lw_m9 210 rfl) rfl
theorem q2195 : (Jvm.Cond.sameMethod "java/lang/AbstractStringBuilder" "java/lang/AbstractStringBuilder" "append" "(I)Ljava/lang/AbstractStringBuilder;") ∈ lw_all := lw_g (lw_at lw_m9 211 rfl) rfl
theorem q2196 : (Jvm.Cond.sameMethod "java/lang/AbstractStringBuilder" "java/lang/AbstractStringBuilder" "append" "(C)Ljava/lang/AbstractStringBuilder;") ∈ lw_all := lw_g (lw_at lw_m9 212 rfl) rfl
theorem q2198 : (Jvm.Cond.sameMethod "java/lang/AbstractStringBuilder" "java/lang/AbstractStringBuilder" "charAt" "(I)C") ∈ lw_all := lw_g (lw_at lw_m9 214 rfl) rfl
theorem q71 : (Jvm.Cond.initialized "java/lang/StringBuilder") ∈ lw_all := lw_g (lw_at lw_m1 7 rfl) rfl
theorem q179 : (Jvm.Cond.instantiable "java/lang/StringBuilder" (4 : Nat)) ∈ lw_all := lw_g (lw_at lw_m1 115 rfl) rfl
theorem q181 : (Jvm.Cond.instanceMethod ({ cls := "java/lang/StringBuilder", name := "<init>", desc := "()V" } : Jvm.MethodName)) ∈ lw_all := lw_g (lw_at lw_m1 117 rfl) rfl
theorem q182 : (Jvm.Cond.code ({ cls := "java/lang/StringBuilder", name := "<init>", desc := "()V" } : Jvm.MethodName) prog_31_method_1_code (1 : Nat) (Option.none : Option Jvm.ClassFile.FieldType)) ∈ lw_all := lw_g (lw_at lw_m1 118 rfl) rfl
theorem q183 : (Jvm.Cond.methodLink "java/lang/StringBuilder" (1 : Nat) ({ cls := "java/lang/AbstractStringBuilder", name := "<init>", desc := "(I)V" } : Jvm.MethodName)) ∈ lw_all := lw_g (lw_at lw_m1 119 rfl) rfl
theorem q201 : (Jvm.Cond.lays "java/lang/StringBuilder" "java/lang/AbstractStringBuilder" "value" "[B") ∈ lw_all := lw_g (lw_at lw_m1 137 rfl) rfl
theorem q203 : (Jvm.Cond.lays "java/lang/StringBuilder" "java/lang/AbstractStringBuilder" "coder" "B") ∈ lw_all := lw_g (lw_at lw_m1 139 rfl) rfl
theorem q205 : (Jvm.Cond.lays "java/lang/StringBuilder" "java/lang/AbstractStringBuilder" "maybeLatin1" "Z") ∈ lw_all := lw_g (lw_at lw_m1 141 rfl) rfl
theorem q207 : (Jvm.Cond.lays "java/lang/StringBuilder" "java/lang/AbstractStringBuilder" "count" "I") ∈ lw_all := lw_g (lw_at lw_m1 143 rfl) rfl
theorem q209 : (Jvm.Cond.superclass "java/lang/StringBuilder" "java/lang/AbstractStringBuilder") ∈ lw_all := lw_g (lw_at lw_m1 145 rfl) rfl
theorem q483 : (Jvm.Cond.selects "java/lang/StringBuilder" ({ cls := "java/lang/Object", name := "getClass", desc := "()Ljava/lang/Class;" } : Jvm.MethodName) ({ cls := "java/lang/Object", name := "getClass", desc := "()Ljava/lang/Class;" } : Jvm.MethodName)) ∈ lw_all := lw_g (lw_at lw_m2 179 rfl) rfl
theorem q634 : (Jvm.Cond.instanceMethod ({ cls := "java/lang/StringBuilder", name := "setLength", desc := "(I)V" } : Jvm.MethodName)) ∈ lw_all := lw_g (lw_at lw_m3 90 rfl) rfl
theorem q635 : (Jvm.Cond.selects "java/lang/StringBuilder" ({ cls := "java/lang/StringBuilder", name := "setLength", desc := "(I)V" } : Jvm.MethodName) ({ cls := "java/lang/StringBuilder", name := "setLength", desc := "(I)V" } : Jvm.MethodName)) ∈ lw_all := lw_g (lw_at lw_m3 91 rfl) rfl
theorem q636 : (Jvm.Cond.code ({ cls := "java/lang/StringBuilder", name := "setLength", desc := "(I)V" } : Jvm.MethodName) prog_31_method_89_code (2 : Nat) (Option.none : Option Jvm.ClassFile.FieldType)) ∈ lw_all := lw_g (lw_at lw_m3 92 rfl) rfl
theorem q637 : (Jvm.Cond.methodLink "java/lang/StringBuilder" (333 : Nat) ({ cls := "java/lang/AbstractStringBuilder", name := "setLength", desc := "(I)V" } : Jvm.MethodName)) ∈ lw_all := lw_g (lw_at lw_m3 93 rfl) rfl
theorem q649 : (Jvm.Cond.instanceMethod ({ cls := "java/lang/StringBuilder", name := "append", desc := "(Ljava/lang/String;)Ljava/lang/StringBuilder;" } : Jvm.MethodName)) ∈ lw_all := lw_g (lw_at lw_m3 105 rfl) rfl
theorem q650 : (Jvm.Cond.selects "java/lang/StringBuilder" ({ cls := "java/lang/StringBuilder", name := "append", desc := "(Ljava/lang/String;)Ljava/lang/StringBuilder;" } : Jvm.MethodName) ({ cls := "java/lang/StringBuilder", name := "append", desc := "(Ljava/lang/String;)Ljava/lang/StringBuilder;" } : Jvm.MethodName)) ∈ lw_all := lw_g (lw_at lw_m3 106 rfl) rfl
theorem q651 : (Jvm.Cond.code ({ cls := "java/lang/StringBuilder", name := "append", desc := "(Ljava/lang/String;)Ljava/lang/StringBuilder;" } : Jvm.MethodName) prog_31_method_7_code (2 : Nat) (Option.some (Jvm.ClassFile.FieldType.object "java/lang/StringBuilder"))) ∈ lw_all := lw_g (lw_at lw_m3 107 rfl) rfl
theorem q652 : (Jvm.Cond.methodLink "java/lang/StringBuilder" (29 : Nat) ({ cls := "java/lang/AbstractStringBuilder", name := "append", desc := "(Ljava/lang/String;)Ljava/lang/AbstractStringBuilder;" } : Jvm.MethodName)) ∈ lw_all := lw_g (lw_at lw_m3 108 rfl) rfl
theorem q682 : (Jvm.Cond.selects "java/lang/StringBuilder" ({ cls := "java/lang/AbstractStringBuilder", name := "isLatin1", desc := "()Z" } : Jvm.MethodName) ({ cls := "java/lang/AbstractStringBuilder", name := "isLatin1", desc := "()Z" } : Jvm.MethodName)) ∈ lw_all := lw_g (lw_at lw_m3 138 rfl) rfl
theorem q754 : (Jvm.Cond.instanceMethod ({ cls := "java/lang/StringBuilder", name := "append", desc := "(I)Ljava/lang/StringBuilder;" } : Jvm.MethodName)) ∈ lw_all := lw_g (lw_at lw_m3 210 rfl) rfl
theorem q755 : (Jvm.Cond.selects "java/lang/StringBuilder" ({ cls := "java/lang/StringBuilder", name := "append", desc := "(I)Ljava/lang/StringBuilder;" } : Jvm.MethodName) ({ cls := "java/lang/StringBuilder", name := "append", desc := "(I)Ljava/lang/StringBuilder;" } : Jvm.MethodName)) ∈ lw_all := lw_g (lw_at lw_m3 211 rfl) rfl
theorem q756 : (Jvm.Cond.code ({ cls := "java/lang/StringBuilder", name := "append", desc := "(I)Ljava/lang/StringBuilder;" } : Jvm.MethodName) prog_31_method_15_code (2 : Nat) (Option.some (Jvm.ClassFile.FieldType.object "java/lang/StringBuilder"))) ∈ lw_all := lw_g (lw_at lw_m3 212 rfl) rfl
theorem q757 : (Jvm.Cond.methodLink "java/lang/StringBuilder" (53 : Nat) ({ cls := "java/lang/AbstractStringBuilder", name := "append", desc := "(I)Ljava/lang/AbstractStringBuilder;" } : Jvm.MethodName)) ∈ lw_all := lw_g (lw_at lw_m3 213 rfl) rfl
theorem q779 : (Jvm.Cond.instanceMethod ({ cls := "java/lang/StringBuilder", name := "toString", desc := "()Ljava/lang/String;" } : Jvm.MethodName)) ∈ lw_all := lw_g (lw_at lw_m3 235 rfl) rfl
theorem q780 : (Jvm.Cond.selects "java/lang/StringBuilder" ({ cls := "java/lang/StringBuilder", name := "toString", desc := "()Ljava/lang/String;" } : Jvm.MethodName) ({ cls := "java/lang/StringBuilder", name := "toString", desc := "()Ljava/lang/String;" } : Jvm.MethodName)) ∈ lw_all := lw_g (lw_at lw_m3 236 rfl) rfl
theorem q781 : (Jvm.Cond.code ({ cls := "java/lang/StringBuilder", name := "toString", desc := "()Ljava/lang/String;" } : Jvm.MethodName) prog_31_method_42_code (1 : Nat) (Option.some (Jvm.ClassFile.FieldType.object "java/lang/String"))) ∈ lw_all := lw_g (lw_at lw_m3 237 rfl) rfl
theorem q782 : (Jvm.Cond.classLink "java/lang/StringBuilder" (18 : Nat) "java/lang/String") ∈ lw_all := lw_g (lw_at lw_m3 238 rfl) rfl
theorem q784 : (Jvm.Cond.methodLink "java/lang/StringBuilder" (137 : Nat) ({ cls := "java/lang/String", name := "<init>", desc := "(Ljava/lang/StringBuilder;)V" } : Jvm.MethodName)) ∈ lw_all := lw_g (lw_at lw_m4 0 rfl) rfl
theorem q794 : (Jvm.Cond.selects "java/lang/StringBuilder" ({ cls := "java/lang/AbstractStringBuilder", name := "getValue", desc := "()[B" } : Jvm.MethodName) ({ cls := "java/lang/AbstractStringBuilder", name := "getValue", desc := "()[B" } : Jvm.MethodName)) ∈ lw_all := lw_g (lw_at lw_m4 10 rfl) rfl
theorem q799 : (Jvm.Cond.selects "java/lang/StringBuilder" ({ cls := "java/lang/AbstractStringBuilder", name := "length", desc := "()I" } : Jvm.MethodName) ({ cls := "java/lang/StringBuilder", name := "length", desc := "()I" } : Jvm.MethodName)) ∈ lw_all := lw_g (lw_at lw_m4 15 rfl) rfl
theorem q800 : (Jvm.Cond.instanceMethod ({ cls := "java/lang/StringBuilder", name := "length", desc := "()I" } : Jvm.MethodName)) ∈ lw_all := lw_g (lw_at lw_m4 16 rfl) rfl
theorem q801 : (Jvm.Cond.code ({ cls := "java/lang/StringBuilder", name := "length", desc := "()I" } : Jvm.MethodName) prog_31_method_93_code (1 : Nat) (Option.some Jvm.ClassFile.FieldType.int)) ∈ lw_all := lw_g (lw_at lw_m4 17 rfl) rfl
theorem q802 : (Jvm.Cond.methodLink "java/lang/StringBuilder" (343 : Nat) ({ cls := "java/lang/AbstractStringBuilder", name := "length", desc := "()I" } : Jvm.MethodName)) ∈ lw_all := lw_g (lw_at lw_m4 18 rfl) rfl
theorem q924 : (Jvm.Cond.instanceMethod ({ cls := "java/lang/StringBuilder", name := "append", desc := "(C)Ljava/lang/StringBuilder;" } : Jvm.MethodName)) ∈ lw_all := lw_g (lw_at lw_m4 140 rfl) rfl
theorem q925 : (Jvm.Cond.selects "java/lang/StringBuilder" ({ cls := "java/lang/StringBuilder", name := "append", desc := "(C)Ljava/lang/StringBuilder;" } : Jvm.MethodName) ({ cls := "java/lang/StringBuilder", name := "append", desc := "(C)Ljava/lang/StringBuilder;" } : Jvm.MethodName)) ∈ lw_all := lw_g (lw_at lw_m4 141 rfl) rfl
theorem q926 : (Jvm.Cond.code ({ cls := "java/lang/StringBuilder", name := "append", desc := "(C)Ljava/lang/StringBuilder;" } : Jvm.MethodName) prog_31_method_14_code (2 : Nat) (Option.some (Jvm.ClassFile.FieldType.object "java/lang/StringBuilder"))) ∈ lw_all := lw_g (lw_at lw_m4 142 rfl) rfl
theorem q927 : (Jvm.Cond.methodLink "java/lang/StringBuilder" (50 : Nat) ({ cls := "java/lang/AbstractStringBuilder", name := "append", desc := "(C)Ljava/lang/AbstractStringBuilder;" } : Jvm.MethodName)) ∈ lw_all := lw_g (lw_at lw_m4 143 rfl) rfl
theorem q1704 : (Jvm.Cond.instanceMethod ({ cls := "java/lang/StringBuilder", name := "charAt", desc := "(I)C" } : Jvm.MethodName)) ∈ lw_all := lw_g (lw_at lw_m7 200 rfl) rfl
theorem q1705 : (Jvm.Cond.selects "java/lang/StringBuilder" ({ cls := "java/lang/StringBuilder", name := "charAt", desc := "(I)C" } : Jvm.MethodName) ({ cls := "java/lang/StringBuilder", name := "charAt", desc := "(I)C" } : Jvm.MethodName)) ∈ lw_all := lw_g (lw_at lw_m7 201 rfl) rfl
theorem q1706 : (Jvm.Cond.code ({ cls := "java/lang/StringBuilder", name := "charAt", desc := "(I)C" } : Jvm.MethodName) prog_31_method_88_code (2 : Nat) (Option.some Jvm.ClassFile.FieldType.char)) ∈ lw_all := lw_g (lw_at lw_m7 202 rfl) rfl
theorem q1707 : (Jvm.Cond.methodLink "java/lang/StringBuilder" (329 : Nat) ({ cls := "java/lang/AbstractStringBuilder", name := "charAt", desc := "(I)C" } : Jvm.MethodName)) ∈ lw_all := lw_g (lw_at lw_m7 203 rfl) rfl
theorem q2197 : (Jvm.Cond.selects "java/lang/StringBuilder" ({ cls := "java/lang/StringBuilder", name := "length", desc := "()I" } : Jvm.MethodName) ({ cls := "java/lang/StringBuilder", name := "length", desc := "()I" } : Jvm.MethodName)) ∈ lw_all := lw_g (lw_at lw_m9 213 rfl) rfl
theorem q2207 : (Jvm.Cond.castable "java/lang/StringBuilder" "java/lang/Object") ∈ lw_tbl := lw_at lw_m9 223 rfl
theorem q72 : (Jvm.Cond.initialized "java/lang/String") ∈ lw_all := lw_g (lw_at lw_m1 8 rfl) rfl
theorem q188 : (Jvm.Cond.laysStatic "java/lang/String" "COMPACT_STRINGS" "Z") ∈ lw_tbl := lw_at lw_m1 124 rfl
theorem q199 : (Jvm.Cond.fieldLink "java/lang/String" (1048 : Nat) "java/lang/AbstractStringBuilder" "maybeLatin1" "Z") ∈ lw_all := lw_g (lw_at lw_m1 135 rfl) rfl
theorem q482 : (Jvm.Cond.selects "java/lang/String" ({ cls := "java/lang/Object", name := "getClass", desc := "()Ljava/lang/Class;" } : Jvm.MethodName) ({ cls := "java/lang/Object", name := "getClass", desc := "()Ljava/lang/Class;" } : Jvm.MethodName)) ∈ lw_all := lw_g (lw_at lw_m2 178 rfl) rfl
theorem q694 : (Jvm.Cond.static ({ cls := "java/lang/String", name := "checkBoundsBeginEnd", desc := "(III)V" } : Jvm.MethodName)) ∈ lw_all := lw_g (lw_at lw_m3 150 rfl) rfl
theorem q695 : (Jvm.Cond.code ({ cls := "java/lang/String", name := "checkBoundsBeginEnd", desc := "(III)V" } : Jvm.MethodName) prog_30_method_158_code (3 : Nat) (Option.none : Option Jvm.ClassFile.FieldType)) ∈ lw_all := lw_g (lw_at lw_m3 151 rfl) rfl
theorem q696 : (Jvm.Cond.fieldLink "java/lang/String" (1053 : Nat) "jdk/internal/util/Preconditions" "SIOOBE_FORMATTER" "Ljava/util/function/BiFunction;") ∈ lw_all := lw_g (lw_at lw_m3 152 rfl) rfl
theorem q698 : (Jvm.Cond.methodLink "java/lang/String" (1062 : Nat) ({ cls := "jdk/internal/util/Preconditions", name := "checkFromToIndex", desc := "(IIILjava/util/function/BiFunction;)I" } : Jvm.MethodName)) ∈ lw_all := lw_g (lw_at lw_m3 154 rfl) rfl
theorem q711 : (Jvm.Cond.instanceMethod ({ cls := "java/lang/String", name := "length", desc := "()I" } : Jvm.MethodName)) ∈ lw_all := lw_g (lw_at lw_m3 167 rfl) rfl
theorem q712 : (Jvm.Cond.selects "java/lang/String" ({ cls := "java/lang/String", name := "length", desc := "()I" } : Jvm.MethodName) ({ cls := "java/lang/String", name := "length", desc := "()I" } : Jvm.MethodName)) ∈ lw_all := lw_g (lw_at lw_m3 168 rfl) rfl
theorem q713 : (Jvm.Cond.code ({ cls := "java/lang/String", name := "length", desc := "()I" } : Jvm.MethodName) prog_30_method_54_code (1 : Nat) (Option.some Jvm.ClassFile.FieldType.int)) ∈ lw_all := lw_g (lw_at lw_m3 169 rfl) rfl
theorem q714 : (Jvm.Cond.methodLink "java/lang/String" (335 : Nat) ({ cls := "java/lang/String", name := "coder", desc := "()B" } : Jvm.MethodName)) ∈ lw_all := lw_g (lw_at lw_m3 170 rfl) rfl
theorem q715 : (Jvm.Cond.instanceMethod ({ cls := "java/lang/String", name := "coder", desc := "()B" } : Jvm.MethodName)) ∈ lw_all := lw_g (lw_at lw_m3 171 rfl) rfl
theorem q716 : (Jvm.Cond.selects "java/lang/String" ({ cls := "java/lang/String", name := "coder", desc := "()B" } : Jvm.MethodName) ({ cls := "java/lang/String", name := "coder", desc := "()B" } : Jvm.MethodName)) ∈ lw_all := lw_g (lw_at lw_m3 172 rfl) rfl
theorem q717 : (Jvm.Cond.code ({ cls := "java/lang/String", name := "coder", desc := "()B" } : Jvm.MethodName) prog_30_method_152_code (1 : Nat) (Option.some Jvm.ClassFile.FieldType.byte)) ∈ lw_all := lw_g (lw_at lw_m3 173 rfl) rfl
theorem q718 : (Jvm.Cond.fieldLink "java/lang/String" (38 : Nat) "java/lang/String" "COMPACT_STRINGS" "Z") ∈ lw_all := lw_g (lw_at lw_m3 174 rfl) rfl
theorem q742 : (Jvm.Cond.static ({ cls := "java/lang/String", name := "checkBoundsOffCount", desc := "(III)I" } : Jvm.MethodName)) ∈ lw_all := lw_g (lw_at lw_m3 198 rfl) rfl
theorem q743 : (Jvm.Cond.code ({ cls := "java/lang/String", name := "checkBoundsOffCount", desc := "(III)I" } : Jvm.MethodName) prog_30_method_157_code (3 : Nat) (Option.some Jvm.ClassFile.FieldType.int)) ∈ lw_all := lw_g (lw_at lw_m3 199 rfl) rfl
theorem q744 : (Jvm.Cond.methodLink "java/lang/String" (1065 : Nat) ({ cls := "jdk/internal/util/Preconditions", name := "checkFromIndexSize", desc := "(IIILjava/util/function/BiFunction;)I" } : Jvm.MethodName)) ∈ lw_all := lw_g (lw_at lw_m3 200 rfl) rfl
theorem q748 : (Jvm.Cond.instanceMethod ({ cls := "java/lang/String", name := "getBytes", desc := "([BIB)V" } : Jvm.MethodName)) ∈ lw_all := lw_g (lw_at lw_m3 204 rfl) rfl
theorem q749 : (Jvm.Cond.selects "java/lang/String" ({ cls := "java/lang/String", name := "getBytes", desc := "([BIB)V" } : Jvm.MethodName) ({ cls := "java/lang/String", name := "getBytes", desc := "([BIB)V" } : Jvm.MethodName)) ∈ lw_all := lw_g (lw_at lw_m3 205 rfl) rfl
theorem q750 : (Jvm.Cond.code ({ cls := "java/lang/String", name := "getBytes", desc := "([BIB)V" } : Jvm.MethodName) prog_30_method_147_code (4 : Nat) (Option.none : Option Jvm.ClassFile.FieldType)) ∈ lw_all := lw_g (lw_at lw_m3 206 rfl) rfl
theorem q751 : (Jvm.Cond.methodLink "java/lang/String" (212 : Nat) ({ cls := "java/lang/System", name := "arraycopy", desc := "(Ljava/lang/Object;ILjava/lang/Object;II)V" } : Jvm.MethodName)) ∈ lw_all := lw_g (lw_at lw_m3 207 rfl) rfl
theorem q752 : (Jvm.Cond.methodLink "java/lang/String" (106 : Nat) ({ cls := "java/lang/StringLatin1", name := "inflate", desc := "([BI[BII)V" } : Jvm.MethodName)) ∈ lw_all := lw_g (lw_at lw_m3 208 rfl) rfl
theorem q783 : (Jvm.Cond.instantiable "java/lang/String" (4 : Nat)) ∈ lw_all := lw_g (lw_at lw_m3 239 rfl) rfl
theorem q785 : (Jvm.Cond.instanceMethod ({ cls := "java/lang/String", name := "<init>", desc := "(Ljava/lang/StringBuilder;)V" } : Jvm.MethodName)) ∈ lw_all := lw_g (lw_at lw_m4 1 rfl) rfl
theorem q786 : (Jvm.Cond.code ({ cls := "java/lang/String", name := "<init>", desc := "(Ljava/lang/StringBuilder;)V" } : Jvm.MethodName) prog_30_method_53_code (2 : Nat) (Option.none : Option Jvm.ClassFile.FieldType)) ∈ lw_all := lw_g (lw_at lw_m4 2 rfl) rfl
theorem q787 : (Jvm.Cond.methodLink "java/lang/String" (489 : Nat) ({ cls := "java/lang/String", name := "<init>", desc := "(Ljava/lang/AbstractStringBuilder;Ljava/lang/Void;)V" } : Jvm.MethodName)) ∈ lw_all := lw_g (lw_at lw_m4 3 rfl) rfl
theorem q788 : (Jvm.Cond.instanceMethod ({ cls := "java/lang/String", name := "<init>", desc := "(Ljava/lang/AbstractStringBuilder;Ljava/lang/Void;)V" } : Jvm.MethodName)) ∈ lw_all := lw_g (lw_at lw_m4 4 rfl) rfl
theorem q789 : (Jvm.Cond.code ({ cls := "java/lang/String", name := "<init>", desc := "(Ljava/lang/AbstractStringBuilder;Ljava/lang/Void;)V" } : Jvm.MethodName) prog_30_method_150_code (5 : Nat) (Option.none : Option Jvm.ClassFile.FieldType)) ∈ lw_all := lw_g (lw_at lw_m4 5 rfl) rfl
theorem q790 : (Jvm.Cond.methodLink "java/lang/String" (1 : Nat) ({ cls := "java/lang/Object", name := "<init>", desc := "()V" } : Jvm.MethodName)) ∈ lw_all := lw_g (lw_at lw_m4 6 rfl) rfl
theorem q791 : (Jvm.Cond.methodLink "java/lang/String" (552 : Nat) ({ cls := "java/lang/AbstractStringBuilder", name := "getValue", desc := "()[B" } : Jvm.MethodName)) ∈ lw_all := lw_g (lw_at lw_m4 7 rfl) rfl
theorem q796 : (Jvm.Cond.methodLink "java/lang/String" (549 : Nat) ({ cls := "java/lang/AbstractStringBuilder", name := "length", desc := "()I" } : Jvm.MethodName)) ∈ lw_all := lw_g (lw_at lw_m4 12 rfl) rfl
theorem q804 : (Jvm.Cond.methodLink "java/lang/String" (1047 : Nat) ({ cls := "java/lang/AbstractStringBuilder", name := "isLatin1", desc := "()Z" } : Jvm.MethodName)) ∈ lw_all := lw_g (lw_at lw_m4 20 rfl) rfl
theorem q805 : (Jvm.Cond.methodLink "java/lang/String" (54 : Nat) ({ cls := "java/util/Arrays", name := "copyOfRange", desc := "([BII)[B" } : Jvm.MethodName)) ∈ lw_all := lw_g (lw_at lw_m4 21 rfl) rfl
theorem q843 : (Jvm.Cond.methodLink "java/lang/String" (1051 : Nat) ({ cls := "java/lang/StringUTF16", name := "compress", desc := "([BII)[B" } : Jvm.MethodName)) ∈ lw_all := lw_g (lw_at lw_m4 59 rfl) rfl
theorem q853 : (Jvm.Cond.methodLink "java/lang/String" (47 : Nat) ({ cls := "java/lang/StringUTF16", name := "coderFromArrayLen", desc := "([BI)B" } : Jvm.MethodName)) ∈ lw_all := lw_g (lw_at lw_m4 69 rfl) rfl
theorem q856 : (Jvm.Cond.fieldLink "java/lang/String" (9 : Nat) "java/lang/String" "value" "[B") ∈ lw_all := lw_g (lw_at lw_m4 72 rfl) rfl
theorem q857 : (Jvm.Cond.fieldLink "java/lang/String" (15 : Nat) "java/lang/String" "coder" "B") ∈ lw_all := lw_g (lw_at lw_m4 73 rfl) rfl
theorem q858 : (Jvm.Cond.fieldLink "java/lang/String" (19 : Nat) "java/lang/String" "hash" "I") ∈ lw_all := lw_g (lw_at lw_m4 74 rfl) rfl
theorem q859 : (Jvm.Cond.fieldLink "java/lang/String" (23 : Nat) "java/lang/String" "hashIsZero" "Z") ∈ lw_all := lw_g (lw_at lw_m4 75 rfl) rfl
theorem q860 : (Jvm.Cond.laysFinal "java/lang/String" "java/lang/String" "value" "[B") ∈ lw_all := lw_g (lw_at lw_m4 76 rfl) rfl
theorem q861 : (Jvm.Cond.soleField "java/lang/String" "value") ∈ lw_all := lw_g (lw_at lw_m4 77 rfl) rfl
theorem q862 : (Jvm.Cond.laysFinal "java/lang/String" "java/lang/String" "coder" "B") ∈ lw_all := lw_g (lw_at lw_m4 78 rfl) rfl
theorem q863 : (Jvm.Cond.soleField "java/lang/String" "coder") ∈ lw_all := lw_g (lw_at lw_m4 79 rfl) rfl
theorem q864 : (Jvm.Cond.lays "java/lang/String" "java/lang/String" "hash" "I") ∈ lw_all := lw_g (lw_at lw_m4 80 rfl) rfl
theorem q865 : (Jvm.Cond.soleField "java/lang/String" "hash") ∈ lw_all := lw_g (lw_at lw_m4 81 rfl) rfl
theorem q866 : (Jvm.Cond.lays "java/lang/String" "java/lang/String" "hashIsZero" "Z") ∈ lw_all := lw_g (lw_at lw_m4 82 rfl) rfl
theorem q867 : (Jvm.Cond.soleField "java/lang/String" "hashIsZero") ∈ lw_all := lw_g (lw_at lw_m4 83 rfl) rfl
theorem q868 : (Jvm.Cond.superclass "java/lang/String" "java/lang/Object") ∈ lw_all := lw_g (lw_at lw_m4 84 rfl) rfl
theorem q940 : (Jvm.Cond.static ({ cls := "java/lang/String", name := "checkIndex", desc := "(II)V" } : Jvm.MethodName)) ∈ lw_all := lw_g (lw_at lw_m4 156 rfl) rfl
theorem q941 : (Jvm.Cond.code ({ cls := "java/lang/String", name := "checkIndex", desc := "(II)V" } : Jvm.MethodName) prog_30_method_155_code (2 : Nat) (Option.none : Option Jvm.ClassFile.FieldType)) ∈ lw_all := lw_g (lw_at lw_m4 157 rfl) rfl
theorem q942 : (Jvm.Cond.methodLink "java/lang/String" (1059 : Nat) ({ cls := "jdk/internal/util/Preconditions", name := "checkIndex", desc := "(IILjava/util/function/BiFunction;)I" } : Jvm.MethodName)) ∈ lw_all := lw_g (lw_at lw_m4 158 rfl) rfl
theorem q1504 : (Jvm.Cond.instanceMethod ({ cls := "java/lang/String", name := "charAt", desc := "(I)C" } : Jvm.MethodName)) ∈ lw_all := lw_g (lw_at lw_m7 0 rfl) rfl
theorem q1505 : (Jvm.Cond.selects "java/lang/String" ({ cls := "java/lang/String", name := "charAt", desc := "(I)C" } : Jvm.MethodName) ({ cls := "java/lang/String", name := "charAt", desc := "(I)C" } : Jvm.MethodName)) ∈ lw_all := lw_g (lw_at lw_m7 1 rfl) rfl
theorem q1506 : (Jvm.Cond.code ({ cls := "java/lang/String", name := "charAt", desc := "(I)C" } : Jvm.MethodName) prog_30_method_56_code (2 : Nat) (Option.some Jvm.ClassFile.FieldType.char)) ∈ lw_all := lw_g (lw_at lw_m7 2 rfl) rfl
theorem q1507 : (Jvm.Cond.methodLink "java/lang/String" (492 : Nat) ({ cls := "java/lang/String", name := "isLatin1", desc := "()Z" } : Jvm.MethodName)) ∈ lw_all := lw_g (lw_at lw_m7 3 rfl) rfl
theorem q1508 : (Jvm.Cond.instanceMethod ({ cls := "java/lang/String", name := "isLatin1", desc := "()Z" } : Jvm.MethodName)) ∈ lw_all := lw_g (lw_at lw_m7 4 rfl) rfl
theorem q1509 : (Jvm.Cond.selects "java/lang/String" ({ cls := "java/lang/String", name := "isLatin1", desc := "()Z" } : Jvm.MethodName) ({ cls := "java/lang/String", name := "isLatin1", desc := "()Z" } : Jvm.MethodName)) ∈ lw_all := lw_g (lw_at lw_m7 5 rfl) rfl
theorem q1510 : (Jvm.Cond.code ({ cls := "java/lang/String", name := "isLatin1", desc := "()Z" } : Jvm.MethodName) prog_30_method_154_code (1 : Nat) (Option.some Jvm.ClassFile.FieldType.boolean)) ∈ lw_all := lw_g (lw_at lw_m7 6 rfl) rfl
theorem q1511 : (Jvm.Cond.methodLink "java/lang/String" (495 : Nat) ({ cls := "java/lang/StringLatin1", name := "charAt", desc := "([BI)C" } : Jvm.MethodName)) ∈ lw_all := lw_g (lw_at lw_m7 7 rfl) rfl
theorem q1515 : (Jvm.Cond.methodLink "java/lang/String" (498 : Nat) ({ cls := "java/lang/StringUTF16", name := "charAt", desc := "([BI)C" } : Jvm.MethodName)) ∈ lw_all := lw_g (lw_at lw_m7 11 rfl) rfl
theorem q1559 : (Jvm.Cond.instanceMethod ({ cls := "java/lang/String", name := "hashCode", desc := "()I" } : Jvm.MethodName)) ∈ lw_all := lw_g (lw_at lw_m7 55 rfl) rfl
theorem q1560 : (Jvm.Cond.selects "java/lang/String" ({ cls := "java/lang/String", name := "hashCode", desc := "()I" } : Jvm.MethodName) ({ cls := "java/lang/String", name := "hashCode", desc := "()I" } : Jvm.MethodName)) ∈ lw_all := lw_g (lw_at lw_m7 56 rfl) rfl
theorem q1561 : (Jvm.Cond.code ({ cls := "java/lang/String", name := "hashCode", desc := "()I" } : Jvm.MethodName) prog_30_method_78_code (2 : Nat) (Option.some Jvm.ClassFile.FieldType.int)) ∈ lw_all := lw_g (lw_at lw_m7 57 rfl) rfl
theorem q1562 : (Jvm.Cond.methodLink "java/lang/String" (628 : Nat) ({ cls := "java/lang/StringLatin1", name := "hashCode", desc := "([B)I" } : Jvm.MethodName)) ∈ lw_all := lw_g (lw_at lw_m7 58 rfl) rfl
theorem q1611 : (Jvm.Cond.methodLink "java/lang/String" (632 : Nat) ({ cls := "java/lang/StringUTF16", name := "hashCode", desc := "([B)I" } : Jvm.MethodName)) ∈ lw_all := lw_g (lw_at lw_m7 107 rfl) rfl
theorem q1616 : (Jvm.Cond.instanceMethod ({ cls := "java/lang/String", name := "equals", desc := "(Ljava/lang/Object;)Z" } : Jvm.MethodName)) ∈ lw_all := lw_g (lw_at lw_m7 112 rfl) rfl
theorem q1617 : (Jvm.Cond.selects "java/lang/String" ({ cls := "java/lang/String", name := "equals", desc := "(Ljava/lang/Object;)Z" } : Jvm.MethodName) ({ cls := "java/lang/String", name := "equals", desc := "(Ljava/lang/Object;)Z" } : Jvm.MethodName)) ∈ lw_all := lw_g (lw_at lw_m7 113 rfl) rfl
theorem q1618 : (Jvm.Cond.code ({ cls := "java/lang/String", name := "equals", desc := "(Ljava/lang/Object;)Z" } : Jvm.MethodName) prog_30_method_66_code (3 : Nat) (Option.some Jvm.ClassFile.FieldType.boolean)) ∈ lw_all := lw_g (lw_at lw_m7 114 rfl) rfl
theorem q1619 : (Jvm.Cond.classLink "java/lang/String" (10 : Nat) "java/lang/String") ∈ lw_all := lw_g (lw_at lw_m7 115 rfl) rfl
theorem q1620 : (Jvm.Cond.methodLink "java/lang/String" (541 : Nat) ({ cls := "java/lang/StringLatin1", name := "equals", desc := "([B[B)Z" } : Jvm.MethodName)) ∈ lw_all := lw_g (lw_at lw_m7 116 rfl) rfl
theorem q2224 : (Jvm.Cond.castable "java/lang/String" "java/lang/Object") ∈ lw_tbl := lw_at lw_m10 0 rfl
theorem q73 : (Jvm.Cond.initialized "java/lang/StringUTF16") ∈ lw_all := lw_g (lw_at lw_m1 9 rfl) rfl
theorem q190 : (Jvm.Cond.static ({ cls := "java/lang/StringUTF16", name := "newBytesFor", desc := "(I)[B" } : Jvm.MethodName)) ∈ lw_all := lw_g (lw_at lw_m1 126 rfl) rfl
theorem q191 : (Jvm.Cond.code ({ cls := "java/lang/StringUTF16", name := "newBytesFor", desc := "(I)[B" } : Jvm.MethodName) prog_34_method_2_code (1 : Nat) (Option.some (Jvm.ClassFile.FieldType.array Jvm.ClassFile.FieldType.byte))) ∈ lw_all := lw_g (lw_at lw_m1 127 rfl) rfl
theorem q192 : (Jvm.Cond.methodLink "java/lang/StringUTF16" (11 : Nat) ({ cls := "java/lang/StringUTF16", name := "newBytesLength", desc := "(I)I" } : Jvm.MethodName)) ∈ lw_all := lw_g (lw_at lw_m1 128 rfl) rfl
theorem q193 : (Jvm.Cond.static ({ cls := "java/lang/StringUTF16", name := "newBytesLength", desc := "(I)I" } : Jvm.MethodName)) ∈ lw_all := lw_g (lw_at lw_m1 129 rfl) rfl
theorem q194 : (Jvm.Cond.code ({ cls := "java/lang/StringUTF16", name := "newBytesLength", desc := "(I)I" } : Jvm.MethodName) prog_34_method_3_code (1 : Nat) (Option.some Jvm.ClassFile.FieldType.int)) ∈ lw_all := lw_g (lw_at lw_m1 130 rfl) rfl
theorem q195 : (Jvm.Cond.constant "java/lang/StringUTF16" (20 : Nat) (1073741823 : Int32)) ∈ lw_all := lw_g (lw_at lw_m1 131 rfl) rfl
theorem q685 : (Jvm.Cond.static ({ cls := "java/lang/StringUTF16", name := "putCharsAt", desc := "([BICCCC)I" } : Jvm.MethodName)) ∈ lw_all := lw_g (lw_at lw_m3 141 rfl) rfl
theorem q686 : (Jvm.Cond.code ({ cls := "java/lang/StringUTF16", name := "putCharsAt", desc := "([BICCCC)I" } : Jvm.MethodName) prog_34_method_81_code (7 : Nat) (Option.some Jvm.ClassFile.FieldType.int)) ∈ lw_all := lw_g (lw_at lw_m3 142 rfl) rfl
theorem q687 : (Jvm.Cond.methodLink "java/lang/StringUTF16" (96 : Nat) ({ cls := "java/lang/StringUTF16", name := "checkBoundsBeginEnd", desc := "(II[B)V" } : Jvm.MethodName)) ∈ lw_all := lw_g (lw_at lw_m3 143 rfl) rfl
theorem q688 : (Jvm.Cond.static ({ cls := "java/lang/StringUTF16", name := "checkBoundsBeginEnd", desc := "(II[B)V" } : Jvm.MethodName)) ∈ lw_all := lw_g (lw_at lw_m3 144 rfl) rfl
theorem q689 : (Jvm.Cond.code ({ cls := "java/lang/StringUTF16", name := "checkBoundsBeginEnd", desc := "(II[B)V" } : Jvm.MethodName) prog_34_method_93_code (3 : Nat) (Option.none : Option Jvm.ClassFile.FieldType)) ∈ lw_all := lw_g (lw_at lw_m3 145 rfl) rfl
theorem q690 : (Jvm.Cond.methodLink "java/lang/StringUTF16" (48 : Nat) ({ cls := "java/lang/StringUTF16", name := "length", desc := "([B)I" } : Jvm.MethodName)) ∈ lw_all := lw_g (lw_at lw_m3 146 rfl) rfl
theorem q691 : (Jvm.Cond.static ({ cls := "java/lang/StringUTF16", name := "length", desc := "([B)I" } : Jvm.MethodName)) ∈ lw_all := lw_g (lw_at lw_m3 147 rfl) rfl
theorem q692 : (Jvm.Cond.code ({ cls := "java/lang/StringUTF16", name := "length", desc := "([B)I" } : Jvm.MethodName) prog_34_method_6_code (1 : Nat) (Option.some Jvm.ClassFile.FieldType.int)) ∈ lw_all := lw_g (lw_at lw_m3 148 rfl) rfl
theorem q693 : (Jvm.Cond.methodLink "java/lang/StringUTF16" (241 : Nat) ({ cls := "java/lang/String", name := "checkBoundsBeginEnd", desc := "(III)V" } : Jvm.MethodName)) ∈ lw_all := lw_g (lw_at lw_m3 149 rfl) rfl
theorem q701 : (Jvm.Cond.methodLink "java/lang/StringUTF16" (111 : Nat) ({ cls := "java/lang/StringUTF16", name := "putChar", desc := "([BII)V" } : Jvm.MethodName)) ∈ lw_all := lw_g (lw_at lw_m3 157 rfl) rfl
theorem q702 : (Jvm.Cond.static ({ cls := "java/lang/StringUTF16", name := "putChar", desc := "([BII)V" } : Jvm.MethodName)) ∈ lw_all := lw_g (lw_at lw_m3 158 rfl) rfl
theorem q703 : (Jvm.Cond.code ({ cls := "java/lang/StringUTF16", name := "putChar", desc := "([BII)V" } : Jvm.MethodName) prog_34_method_4_code (3 : Nat) (Option.none : Option Jvm.ClassFile.FieldType)) ∈ lw_all := lw_g (lw_at lw_m3 159 rfl) rfl
theorem q704 : (Jvm.Cond.fieldLink "java/lang/StringUTF16" (44 : Nat) "java/lang/StringUTF16" "$assertionsDisabled" "Z") ∈ lw_all := lw_g (lw_at lw_m3 160 rfl) rfl
theorem q705 : (Jvm.Cond.laysStatic "java/lang/StringUTF16" "$assertionsDisabled" "Z") ∈ lw_tbl := lw_at lw_m3 161 rfl
theorem q706 : (Jvm.Cond.fieldLink "java/lang/StringUTF16" (59 : Nat) "java/lang/StringUTF16" "HI_BYTE_SHIFT" "I") ∈ lw_all := lw_g (lw_at lw_m3 162 rfl) rfl
theorem q707 : (Jvm.Cond.laysStatic "java/lang/StringUTF16" "HI_BYTE_SHIFT" "I") ∈ lw_tbl := lw_at lw_m3 163 rfl
theorem q708 : (Jvm.Cond.fieldLink "java/lang/StringUTF16" (63 : Nat) "java/lang/StringUTF16" "LO_BYTE_SHIFT" "I") ∈ lw_all := lw_g (lw_at lw_m3 164 rfl) rfl
theorem q709 : (Jvm.Cond.laysStatic "java/lang/StringUTF16" "LO_BYTE_SHIFT" "I") ∈ lw_tbl := lw_at lw_m3 165 rfl
theorem q736 : (Jvm.Cond.static ({ cls := "java/lang/StringUTF16", name := "inflate", desc := "([BI[BII)V" } : Jvm.MethodName)) ∈ lw_all := lw_g (lw_at lw_m3 192 rfl) rfl
theorem q737 : (Jvm.Cond.code ({ cls := "java/lang/StringUTF16", name := "inflate", desc := "([BI[BII)V" } : Jvm.MethodName) prog_34_method_86_code (6 : Nat) (Option.none : Option Jvm.ClassFile.FieldType)) ∈ lw_all := lw_g (lw_at lw_m3 193 rfl) rfl
theorem q738 : (Jvm.Cond.methodLink "java/lang/StringUTF16" (173 : Nat) ({ cls := "java/lang/StringUTF16", name := "checkBoundsOffCount", desc := "(II[B)V" } : Jvm.MethodName)) ∈ lw_all := lw_g (lw_at lw_m3 194 rfl) rfl
theorem q739 : (Jvm.Cond.static ({ cls := "java/lang/StringUTF16", name := "checkBoundsOffCount", desc := "(II[B)V" } : Jvm.MethodName)) ∈ lw_all := lw_g (lw_at lw_m3 195 rfl) rfl
theorem q740 : (Jvm.Cond.code ({ cls := "java/lang/StringUTF16", name := "checkBoundsOffCount", desc := "(II[B)V" } : Jvm.MethodName) prog_34_method_94_code (3 : Nat) (Option.none : Option Jvm.ClassFile.FieldType)) ∈ lw_all := lw_g (lw_at lw_m3 196 rfl) rfl
theorem q741 : (Jvm.Cond.methodLink "java/lang/StringUTF16" (419 : Nat) ({ cls := "java/lang/String", name := "checkBoundsOffCount", desc := "(III)I" } : Jvm.MethodName)) ∈ lw_all := lw_g (lw_at lw_m3 197 rfl) rfl
theorem q771 : (Jvm.Cond.static ({ cls := "java/lang/StringUTF16", name := "getChars", desc := "(III[B)I" } : Jvm.MethodName)) ∈ lw_all := lw_g (lw_at lw_m3 227 rfl) rfl
theorem q772 : (Jvm.Cond.code ({ cls := "java/lang/StringUTF16", name := "getChars", desc := "(III[B)I" } : Jvm.MethodName) prog_34_method_77_code (5 : Nat) (Option.some Jvm.ClassFile.FieldType.int)) ∈ lw_all := lw_g (lw_at lw_m3 228 rfl) rfl
theorem q773 : (Jvm.Cond.methodLink "java/lang/StringUTF16" (393 : Nat) ({ cls := "java/lang/StringUTF16", name := "getChars", desc := "(II[B)I" } : Jvm.MethodName)) ∈ lw_all := lw_g (lw_at lw_m3 229 rfl) rfl
theorem q774 : (Jvm.Cond.static ({ cls := "java/lang/StringUTF16", name := "getChars", desc := "(II[B)I" } : Jvm.MethodName)) ∈ lw_all := lw_g (lw_at lw_m3 230 rfl) rfl
theorem q775 : (Jvm.Cond.code ({ cls := "java/lang/StringUTF16", name := "getChars", desc := "(II[B)I" } : Jvm.MethodName) prog_34_method_89_code (7 : Nat) (Option.some Jvm.ClassFile.FieldType.int)) ∈ lw_all := lw_g (lw_at lw_m3 231 rfl) rfl
theorem q776 : (Jvm.Cond.fieldLink "java/lang/StringUTF16" (403 : Nat) "java/lang/Integer" "DigitOnes" "[B") ∈ lw_all := lw_g (lw_at lw_m3 232 rfl) rfl
theorem q777 : (Jvm.Cond.fieldLink "java/lang/StringUTF16" (407 : Nat) "java/lang/Integer" "DigitTens" "[B") ∈ lw_all := lw_g (lw_at lw_m3 233 rfl) rfl
theorem q844 : (Jvm.Cond.static ({ cls := "java/lang/StringUTF16", name := "compress", desc := "([BII)[B" } : Jvm.MethodName)) ∈ lw_all := lw_g (lw_at lw_m4 60 rfl) rfl
theorem q845 : (Jvm.Cond.code ({ cls := "java/lang/StringUTF16", name := "compress", desc := "([BII)[B" } : Jvm.MethodName) prog_34_method_17_code (6 : Nat) (Option.some (Jvm.ClassFile.FieldType.array Jvm.ClassFile.FieldType.byte))) ∈ lw_all := lw_g (lw_at lw_m4 61 rfl) rfl
theorem q846 : (Jvm.Cond.methodLink "java/lang/StringUTF16" (123 : Nat) ({ cls := "java/lang/StringUTF16", name := "compress", desc := "([BI[BII)I" } : Jvm.MethodName)) ∈ lw_all := lw_g (lw_at lw_m4 62 rfl) rfl
theorem q847 : (Jvm.Cond.static ({ cls := "java/lang/StringUTF16", name := "compress", desc := "([BI[BII)I" } : Jvm.MethodName)) ∈ lw_all := lw_g (lw_at lw_m4 63 rfl) rfl
theorem q848 : (Jvm.Cond.code ({ cls := "java/lang/StringUTF16", name := "compress", desc := "([BI[BII)I" } : Jvm.MethodName) prog_34_method_22_code (7 : Nat) (Option.some Jvm.ClassFile.FieldType.int)) ∈ lw_all := lw_g (lw_at lw_m4 64 rfl) rfl
theorem q849 : (Jvm.Cond.methodLink "java/lang/StringUTF16" (71 : Nat) ({ cls := "java/lang/StringUTF16", name := "getChar", desc := "([BI)C" } : Jvm.MethodName)) ∈ lw_all := lw_g (lw_at lw_m4 65 rfl) rfl
theorem q850 : (Jvm.Cond.static ({ cls := "java/lang/StringUTF16", name := "getChar", desc := "([BI)C" } : Jvm.MethodName)) ∈ lw_all := lw_g (lw_at lw_m4 66 rfl) rfl
theorem q851 : (Jvm.Cond.code ({ cls := "java/lang/StringUTF16", name := "getChar", desc := "([BI)C" } : Jvm.MethodName) prog_34_method_5_code (2 : Nat) (Option.some Jvm.ClassFile.FieldType.char)) ∈ lw_all := lw_g (lw_at lw_m4 67 rfl) rfl
theorem q852 : (Jvm.Cond.methodLink "java/lang/StringUTF16" (126 : Nat) ({ cls := "java/util/Arrays", name := "copyOfRange", desc := "([BII)[B" } : Jvm.MethodName)) ∈ lw_all := lw_g (lw_at lw_m4 68 rfl) rfl
theorem q854 : (Jvm.Cond.static ({ cls := "java/lang/StringUTF16", name := "coderFromArrayLen", desc := "([BI)B" } : Jvm.MethodName)) ∈ lw_all := lw_g (lw_at lw_m4 70 rfl) rfl
theorem q855 : (Jvm.Cond.code ({ cls := "java/lang/StringUTF16", name := "coderFromArrayLen", desc := "([BI)B" } : Jvm.MethodName) prog_34_method_15_code (2 : Nat) (Option.some Jvm.ClassFile.FieldType.byte)) ∈ lw_all := lw_g (lw_at lw_m4 71 rfl) rfl
theorem q916 : (Jvm.Cond.static ({ cls := "java/lang/StringUTF16", name := "fillNull", desc := "([BII)V" } : Jvm.MethodName)) ∈ lw_all := lw_g (lw_at lw_m4 132 rfl) rfl
theorem q917 : (Jvm.Cond.code ({ cls := "java/lang/StringUTF16", name := "fillNull", desc := "([BII)V" } : Jvm.MethodName) prog_34_method_70_code (3 : Nat) (Option.none : Option Jvm.ClassFile.FieldType)) ∈ lw_all := lw_g (lw_at lw_m4 133 rfl) rfl
theorem q918 : (Jvm.Cond.methodLink "java/lang/StringUTF16" (380 : Nat) ({ cls := "java/util/Arrays", name := "fill", desc := "([BIIB)V" } : Jvm.MethodName)) ∈ lw_all := lw_g (lw_at lw_m4 134 rfl) rfl
theorem q934 : (Jvm.Cond.static ({ cls := "java/lang/StringUTF16", name := "putCharSB", desc := "([BII)V" } : Jvm.MethodName)) ∈ lw_all := lw_g (lw_at lw_m4 150 rfl) rfl
theorem q935 : (Jvm.Cond.code ({ cls := "java/lang/StringUTF16", name := "putCharSB", desc := "([BII)V" } : Jvm.MethodName) prog_34_method_71_code (3 : Nat) (Option.none : Option Jvm.ClassFile.FieldType)) ∈ lw_all := lw_g (lw_at lw_m4 151 rfl) rfl
theorem q936 : (Jvm.Cond.methodLink "java/lang/StringUTF16" (67 : Nat) ({ cls := "java/lang/StringUTF16", name := "checkIndex", desc := "(I[B)V" } : Jvm.MethodName)) ∈ lw_all := lw_g (lw_at lw_m4 152 rfl) rfl
theorem q937 : (Jvm.Cond.static ({ cls := "java/lang/StringUTF16", name := "checkIndex", desc := "(I[B)V" } : Jvm.MethodName)) ∈ lw_all := lw_g (lw_at lw_m4 153 rfl) rfl
theorem q938 : (Jvm.Cond.code ({ cls := "java/lang/StringUTF16", name := "checkIndex", desc := "(I[B)V" } : Jvm.MethodName) prog_34_method_91_code (2 : Nat) (Option.none : Option Jvm.ClassFile.FieldType)) ∈ lw_all := lw_g (lw_at lw_m4 154 rfl) rfl
theorem q939 : (Jvm.Cond.methodLink "java/lang/StringUTF16" (414 : Nat) ({ cls := "java/lang/String", name := "checkIndex", desc := "(II)V" } : Jvm.MethodName)) ∈ lw_all := lw_g (lw_at lw_m4 155 rfl) rfl
theorem q1516 : (Jvm.Cond.static ({ cls := "java/lang/StringUTF16", name := "charAt", desc := "([BI)C" } : Jvm.MethodName)) ∈ lw_all := lw_g (lw_at lw_m7 12 rfl) rfl
theorem q1517 : (Jvm.Cond.code ({ cls := "java/lang/StringUTF16", name := "charAt", desc := "([BI)C" } : Jvm.MethodName) prog_34_method_83_code (2 : Nat) (Option.some Jvm.ClassFile.FieldType.char)) ∈ lw_all := lw_g (lw_at lw_m7 13 rfl) rfl
theorem q1612 : (Jvm.Cond.static ({ cls := "java/lang/StringUTF16", name := "hashCode", desc := "([B)I" } : Jvm.MethodName)) ∈ lw_all := lw_g (lw_at lw_m7 108 rfl) rfl
theorem q1613 : (Jvm.Cond.code ({ cls := "java/lang/StringUTF16", name := "hashCode", desc := "([B)I" } : Jvm.MethodName) prog_34_method_39_code (1 : Nat) (Option.some Jvm.ClassFile.FieldType.int)) ∈ lw_all := lw_g (lw_at lw_m7 109 rfl) rfl
theorem q1614 : (Jvm.Cond.methodLink "java/lang/StringUTF16" (220 : Nat) ({ cls := "jdk/internal/util/ArraysSupport", name := "vectorizedHashCode", desc := "(Ljava/lang/Object;IIII)I" } : Jvm.MethodName)) ∈ lw_all := lw_g (lw_at lw_m7 110 rfl) rfl
theorem q74 : (Jvm.Cond.initialized "LampLeaseOfficeModel") ∈ lw_all := lw_g (lw_at lw_m1 10 rfl) rfl
theorem q476 : (Jvm.Cond.selects "LampLeaseOfficeModel" ({ cls := "java/lang/Object", name := "getClass", desc := "()Ljava/lang/Class;" } : Jvm.MethodName) ({ cls := "java/lang/Object", name := "getClass", desc := "()Ljava/lang/Class;" } : Jvm.MethodName)) ∈ lw_all := lw_g (lw_at lw_m2 172 rfl) rfl
theorem q1733 : (Jvm.Cond.instantiable "LampLeaseOfficeModel" (19 : Nat)) ∈ lw_all := lw_g (lw_at lw_m7 229 rfl) rfl
theorem q1735 : (Jvm.Cond.instanceMethod ({ cls := "LampLeaseOfficeModel", name := "<init>", desc := "()V" } : Jvm.MethodName)) ∈ lw_all := lw_g (lw_at lw_m7 231 rfl) rfl
theorem q1736 : (Jvm.Cond.code ({ cls := "LampLeaseOfficeModel", name := "<init>", desc := "()V" } : Jvm.MethodName) prog_12_method_1_code (1 : Nat) (Option.none : Option Jvm.ClassFile.FieldType)) ∈ lw_all := lw_g (lw_at lw_m7 232 rfl) rfl
theorem q1737 : (Jvm.Cond.methodLink "LampLeaseOfficeModel" (3 : Nat) ({ cls := "java/lang/Object", name := "<init>", desc := "()V" } : Jvm.MethodName)) ∈ lw_all := lw_g (lw_at lw_m7 233 rfl) rfl
theorem q1738 : (Jvm.Cond.fieldLink "LampLeaseOfficeModel" (9 : Nat) "LampLeaseOfficeModel" "s" "[I") ∈ lw_all := lw_g (lw_at lw_m7 234 rfl) rfl
theorem q1739 : (Jvm.Cond.fieldLink "LampLeaseOfficeModel" (13 : Nat) "LampLeaseOfficeModel" "before" "[I") ∈ lw_all := lw_g (lw_at lw_m7 235 rfl) rfl
theorem q1740 : (Jvm.Cond.fieldLink "LampLeaseOfficeModel" (16 : Nat) "LampLeaseOfficeModel" "aside" "[I") ∈ lw_all := lw_g (lw_at lw_m7 236 rfl) rfl
theorem q1741 : (Jvm.Cond.fieldLink "LampLeaseOfficeModel" (19 : Nat) "LampLeaseOfficeModel" "saved" "[I") ∈ lw_all := lw_g (lw_at lw_m7 237 rfl) rfl
theorem q1742 : (Jvm.Cond.fieldLink "LampLeaseOfficeModel" (254 : Nat) "LampLeaseOfficeModel" "isSaved" "Z") ∈ lw_all := lw_g (lw_at lw_m7 238 rfl) rfl
theorem q1743 : (Jvm.Cond.fieldLink "LampLeaseOfficeModel" (22 : Nat) "LampLeaseOfficeModel" "past" "[I") ∈ lw_all := lw_g (lw_at lw_m7 239 rfl) rfl
theorem q1744 : (Jvm.Cond.fieldLink "LampLeaseOfficeModel" (51 : Nat) "LampLeaseOfficeModel" "pastMany" "I") ∈ lw_all := lw_g (lw_at lw_m8 0 rfl) rfl
theorem q1745 : (Jvm.Cond.fieldLink "LampLeaseOfficeModel" (42 : Nat) "LampLeaseOfficeModel" "thrown" "I") ∈ lw_all := lw_g (lw_at lw_m8 1 rfl) rfl
theorem q1746 : (Jvm.Cond.fieldLink "LampLeaseOfficeModel" (25 : Nat) "LampLeaseOfficeModel" "output" "[C") ∈ lw_all := lw_g (lw_at lw_m8 2 rfl) rfl
theorem q1747 : (Jvm.Cond.fieldLink "LampLeaseOfficeModel" (172 : Nat) "LampLeaseOfficeModel" "outputMany" "I") ∈ lw_all := lw_g (lw_at lw_m8 3 rfl) rfl
theorem q1748 : (Jvm.Cond.fieldLink "LampLeaseOfficeModel" (29 : Nat) "LampLeaseOfficeModel" "input" "[C") ∈ lw_all := lw_g (lw_at lw_m8 4 rfl) rfl
theorem q1749 : (Jvm.Cond.fieldLink "LampLeaseOfficeModel" (182 : Nat) "LampLeaseOfficeModel" "length" "I") ∈ lw_all := lw_g (lw_at lw_m8 5 rfl) rfl
theorem q1750 : (Jvm.Cond.fieldLink "LampLeaseOfficeModel" (185 : Nat) "LampLeaseOfficeModel" "at" "I") ∈ lw_all := lw_g (lw_at lw_m8 6 rfl) rfl
theorem q1751 : (Jvm.Cond.fieldLink "LampLeaseOfficeModel" (192 : Nat) "LampLeaseOfficeModel" "isWrong" "Z") ∈ lw_all := lw_g (lw_at lw_m8 7 rfl) rfl
theorem q1752 : (Jvm.Cond.fieldLink "LampLeaseOfficeModel" (32 : Nat) "LampLeaseOfficeModel" "errorAt" "I") ∈ lw_all := lw_g (lw_at lw_m8 8 rfl) rfl
theorem q1753 : (Jvm.Cond.fieldLink "LampLeaseOfficeModel" (36 : Nat) "LampLeaseOfficeModel" "failedAt" "I") ∈ lw_all := lw_g (lw_at lw_m8 9 rfl) rfl
theorem q1754 : (Jvm.Cond.fieldLink "LampLeaseOfficeModel" (250 : Nat) "LampLeaseOfficeModel" "reason" "C") ∈ lw_all := lw_g (lw_at lw_m8 10 rfl) rfl
theorem q1755 : (Jvm.Cond.fieldLink "LampLeaseOfficeModel" (39 : Nat) "LampLeaseOfficeModel" "commands" "[I") ∈ lw_all := lw_g (lw_at lw_m8 11 rfl) rfl
theorem q1756 : (Jvm.Cond.fieldLink "LampLeaseOfficeModel" (213 : Nat) "LampLeaseOfficeModel" "commandMany" "I") ∈ lw_all := lw_g (lw_at lw_m8 12 rfl) rfl
theorem q1757 : (Jvm.Cond.laysFinal "LampLeaseOfficeModel" "LampLeaseOfficeModel" "s" "[I") ∈ lw_all := lw_g (lw_at lw_m8 13 rfl) rfl
theorem q1758 : (Jvm.Cond.soleField "LampLeaseOfficeModel" "s") ∈ lw_all := lw_g (lw_at lw_m8 14 rfl) rfl
theorem q1759 : (Jvm.Cond.laysFinal "LampLeaseOfficeModel" "LampLeaseOfficeModel" "before" "[I") ∈ lw_all := lw_g (lw_at lw_m8 15 rfl) rfl
theorem q1760 : (Jvm.Cond.soleField "LampLeaseOfficeModel" "before") ∈ lw_all := lw_g (lw_at lw_m8 16 rfl) rfl
theorem q1761 : (Jvm.Cond.laysFinal "LampLeaseOfficeModel" "LampLeaseOfficeModel" "aside" "[I") ∈ lw_all := lw_g (lw_at lw_m8 17 rfl) rfl
theorem q1762 : (Jvm.Cond.soleField "LampLeaseOfficeModel" "aside") ∈ lw_all := lw_g (lw_at lw_m8 18 rfl) rfl
theorem q1763 : (Jvm.Cond.laysFinal "LampLeaseOfficeModel" "LampLeaseOfficeModel" "saved" "[I") ∈ lw_all := lw_g (lw_at lw_m8 19 rfl) rfl
theorem q1764 : (Jvm.Cond.soleField "LampLeaseOfficeModel" "saved") ∈ lw_all := lw_g (lw_at lw_m8 20 rfl) rfl
theorem q1765 : (Jvm.Cond.lays "LampLeaseOfficeModel" "LampLeaseOfficeModel" "isSaved" "Z") ∈ lw_all := lw_g (lw_at lw_m8 21 rfl) rfl
theorem q1766 : (Jvm.Cond.soleField "LampLeaseOfficeModel" "isSaved") ∈ lw_all := lw_g (lw_at lw_m8 22 rfl) rfl
theorem q1767 : (Jvm.Cond.laysFinal "LampLeaseOfficeModel" "LampLeaseOfficeModel" "past" "[I") ∈ lw_all := lw_g (lw_at lw_m8 23 rfl) rfl
theorem q1768 : (Jvm.Cond.soleField "LampLeaseOfficeModel" "past") ∈ lw_all := lw_g (lw_at lw_m8 24 rfl) rfl
theorem q1769 : (Jvm.Cond.lays "LampLeaseOfficeModel" "LampLeaseOfficeModel" "pastMany" "I") ∈ lw_all := lw_g (lw_at lw_m8 25 rfl) rfl
theorem q1770 : (Jvm.Cond.soleField "LampLeaseOfficeModel" "pastMany") ∈ lw_all := lw_g (lw_at lw_m8 26 rfl) rfl
theorem q1771 : (Jvm.Cond.lays "LampLeaseOfficeModel" "LampLeaseOfficeModel" "thrown" "I") ∈ lw_all := lw_g (lw_at lw_m8 27 rfl) rfl
theorem q1772 : (Jvm.Cond.soleField "LampLeaseOfficeModel" "thrown") ∈ lw_all := lw_g (lw_at lw_m8 28 rfl) rfl
theorem q1773 : (Jvm.Cond.laysFinal "LampLeaseOfficeModel" "LampLeaseOfficeModel" "output" "[C") ∈ lw_all := lw_g (lw_at lw_m8 29 rfl) rfl
theorem q1774 : (Jvm.Cond.soleField "LampLeaseOfficeModel" "output") ∈ lw_all := lw_g (lw_at lw_m8 30 rfl) rfl
theorem q1775 : (Jvm.Cond.lays "LampLeaseOfficeModel" "LampLeaseOfficeModel" "outputMany" "I") ∈ lw_all := lw_g (lw_at lw_m8 31 rfl) rfl
theorem q1776 : (Jvm.Cond.soleField "LampLeaseOfficeModel" "outputMany") ∈ lw_all := lw_g (lw_at lw_m8 32 rfl) rfl
theorem q1777 : (Jvm.Cond.laysFinal "LampLeaseOfficeModel" "LampLeaseOfficeModel" "input" "[C") ∈ lw_all := lw_g (lw_at lw_m8 33 rfl) rfl
theorem q1778 : (Jvm.Cond.soleField "LampLeaseOfficeModel" "input") ∈ lw_all := lw_g (lw_at lw_m8 34 rfl) rfl
theorem q1779 : (Jvm.Cond.lays "LampLeaseOfficeModel" "LampLeaseOfficeModel" "length" "I") ∈ lw_all := lw_g (lw_at lw_m8 35 rfl) rfl
theorem q1780 : (Jvm.Cond.soleField "LampLeaseOfficeModel" "length") ∈ lw_all := lw_g (lw_at lw_m8 36 rfl) rfl
theorem q1781 : (Jvm.Cond.lays "LampLeaseOfficeModel" "LampLeaseOfficeModel" "at" "I") ∈ lw_all := lw_g (lw_at lw_m8 37 rfl) rfl
theorem q1782 : (Jvm.Cond.soleField "LampLeaseOfficeModel" "at") ∈ lw_all := lw_g (lw_at lw_m8 38 rfl) rfl
theorem q1783 : (Jvm.Cond.lays "LampLeaseOfficeModel" "LampLeaseOfficeModel" "isWrong" "Z") ∈ lw_all := lw_g (lw_at lw_m8 39 rfl) rfl
theorem q1784 : (Jvm.Cond.soleField "LampLeaseOfficeModel" "isWrong") ∈ lw_all := lw_g (lw_at lw_m8 40 rfl) rfl
theorem q1785 : (Jvm.Cond.lays "LampLeaseOfficeModel" "LampLeaseOfficeModel" "errorAt" "I") ∈ lw_all := lw_g (lw_at lw_m8 41 rfl) rfl
theorem q1786 : (Jvm.Cond.soleField "LampLeaseOfficeModel" "errorAt") ∈ lw_all := lw_g (lw_at lw_m8 42 rfl) rfl
theorem q1787 : (Jvm.Cond.lays "LampLeaseOfficeModel" "LampLeaseOfficeModel" "failedAt" "I") ∈ lw_all := lw_g (lw_at lw_m8 43 rfl) rfl
theorem q1788 : (Jvm.Cond.soleField "LampLeaseOfficeModel" "failedAt") ∈ lw_all := lw_g (lw_at lw_m8 44 rfl) rfl
theorem q1789 : (Jvm.Cond.lays "LampLeaseOfficeModel" "LampLeaseOfficeModel" "reason" "C") ∈ lw_all := lw_g (lw_at lw_m8 45 rfl) rfl
theorem q1790 : (Jvm.Cond.soleField "LampLeaseOfficeModel" "reason") ∈ lw_all := lw_g (lw_at lw_m8 46 rfl) rfl
theorem q1791 : (Jvm.Cond.laysFinal "LampLeaseOfficeModel" "LampLeaseOfficeModel" "commands" "[I") ∈ lw_all := lw_g (lw_at lw_m8 47 rfl) rfl
theorem q1792 : (Jvm.Cond.soleField "LampLeaseOfficeModel" "commands") ∈ lw_all := lw_g (lw_at lw_m8 48 rfl) rfl
theorem q1793 : (Jvm.Cond.lays "LampLeaseOfficeModel" "LampLeaseOfficeModel" "commandMany" "I") ∈ lw_all := lw_g (lw_at lw_m8 49 rfl) rfl
theorem q1794 : (Jvm.Cond.soleField "LampLeaseOfficeModel" "commandMany") ∈ lw_all := lw_g (lw_at lw_m8 50 rfl) rfl
theorem q1795 : (Jvm.Cond.superclass "LampLeaseOfficeModel" "java/lang/Object") ∈ lw_all := lw_g (lw_at lw_m8 51 rfl) rfl
theorem q1797 : (Jvm.Cond.instanceMethod ({ cls := "LampLeaseOfficeModel", name := "thrown", desc := "()I" } : Jvm.MethodName)) ∈ lw_all := lw_g (lw_at lw_m8 53 rfl) rfl
theorem q1798 : (Jvm.Cond.selects "LampLeaseOfficeModel" ({ cls := "LampLeaseOfficeModel", name := "thrown", desc := "()I" } : Jvm.MethodName) ({ cls := "LampLeaseOfficeModel", name := "thrown", desc := "()I" } : Jvm.MethodName)) ∈ lw_all := lw_g (lw_at lw_m8 54 rfl) rfl
theorem q1799 : (Jvm.Cond.code ({ cls := "LampLeaseOfficeModel", name := "thrown", desc := "()I" } : Jvm.MethodName) prog_12_method_2_code (1 : Nat) (Option.some Jvm.ClassFile.FieldType.int)) ∈ lw_all := lw_g (lw_at lw_m8 55 rfl) rfl
theorem q1801 : (Jvm.Cond.instanceMethod ({ cls := "LampLeaseOfficeModel", name := "addShip", desc := "()I" } : Jvm.MethodName)) ∈ lw_all := lw_g (lw_at lw_m8 57 rfl) rfl
theorem q1802 : (Jvm.Cond.selects "LampLeaseOfficeModel" ({ cls := "LampLeaseOfficeModel", name := "addShip", desc := "()I" } : Jvm.MethodName) ({ cls := "LampLeaseOfficeModel", name := "addShip", desc := "()I" } : Jvm.MethodName)) ∈ lw_all := lw_g (lw_at lw_m8 58 rfl) rfl
theorem q1803 : (Jvm.Cond.code ({ cls := "LampLeaseOfficeModel", name := "addShip", desc := "()I" } : Jvm.MethodName) prog_12_method_18_code (1 : Nat) (Option.some Jvm.ClassFile.FieldType.int)) ∈ lw_all := lw_g (lw_at lw_m8 59 rfl) rfl
theorem q1804 : (Jvm.Cond.methodLink "LampLeaseOfficeModel" (73 : Nat) ({ cls := "LampLeaseOfficeModel", name := "keep", desc := "()V" } : Jvm.MethodName)) ∈ lw_all := lw_g (lw_at lw_m8 60 rfl) rfl
theorem q1805 : (Jvm.Cond.privateMethod ({ cls := "LampLeaseOfficeModel", name := "keep", desc := "()V" } : Jvm.MethodName)) ∈ lw_tbl := lw_at lw_m8 61 rfl
theorem q1806 : (Jvm.Cond.instanceMethod ({ cls := "LampLeaseOfficeModel", name := "keep", desc := "()V" } : Jvm.MethodName)) ∈ lw_all := lw_g (lw_at lw_m8 62 rfl) rfl
theorem q1807 : (Jvm.Cond.code ({ cls := "LampLeaseOfficeModel", name := "keep", desc := "()V" } : Jvm.MethodName) prog_12_method_4_code (1 : Nat) (Option.none : Option Jvm.ClassFile.FieldType)) ∈ lw_all := lw_g (lw_at lw_m8 63 rfl) rfl
theorem q1808 : (Jvm.Cond.methodLink "LampLeaseOfficeModel" (45 : Nat) ({ cls := "java/lang/System", name := "arraycopy", desc := "(Ljava/lang/Object;ILjava/lang/Object;II)V" } : Jvm.MethodName)) ∈ lw_all := lw_g (lw_at lw_m8 64 rfl) rfl
theorem q1809 : (Jvm.Cond.methodLink "LampLeaseOfficeModel" (76 : Nat) ({ cls := "LampLeaseOfficeModel", name := "doAddShip", desc := "()I" } : Jvm.MethodName)) ∈ lw_all := lw_g (lw_at lw_m8 65 rfl) rfl
theorem q1810 : (Jvm.Cond.privateMethod ({ cls := "LampLeaseOfficeModel", name := "doAddShip", desc := "()I" } : Jvm.MethodName)) ∈ lw_tbl := lw_at lw_m8 66 rfl
theorem q1811 : (Jvm.Cond.instanceMethod ({ cls := "LampLeaseOfficeModel", name := "doAddShip", desc := "()I" } : Jvm.MethodName)) ∈ lw_all := lw_g (lw_at lw_m8 67 rfl) rfl
theorem q1812 : (Jvm.Cond.code ({ cls := "LampLeaseOfficeModel", name := "doAddShip", desc := "()I" } : Jvm.MethodName) prog_12_method_17_code (2 : Nat) (Option.some Jvm.ClassFile.FieldType.int)) ∈ lw_all := lw_g (lw_at lw_m8 68 rfl) rfl
theorem q1813 : (Jvm.Cond.methodLink "LampLeaseOfficeModel" (70 : Nat) ({ cls := "LampLeaseOfficeModel", name := "fails", desc := "(I)I" } : Jvm.MethodName)) ∈ lw_all := lw_g (lw_at lw_m8 69 rfl) rfl
theorem q1814 : (Jvm.Cond.privateMethod ({ cls := "LampLeaseOfficeModel", name := "fails", desc := "(I)I" } : Jvm.MethodName)) ∈ lw_tbl := lw_at lw_m8 70 rfl
theorem q1815 : (Jvm.Cond.instanceMethod ({ cls := "LampLeaseOfficeModel", name := "fails", desc := "(I)I" } : Jvm.MethodName)) ∈ lw_all := lw_g (lw_at lw_m8 71 rfl) rfl
theorem q1816 : (Jvm.Cond.code ({ cls := "LampLeaseOfficeModel", name := "fails", desc := "(I)I" } : Jvm.MethodName) prog_12_method_6_code (2 : Nat) (Option.some Jvm.ClassFile.FieldType.int)) ∈ lw_all := lw_g (lw_at lw_m8 72 rfl) rfl
theorem q1817 : (Jvm.Cond.methodLink "LampLeaseOfficeModel" (80 : Nat) ({ cls := "LampLeaseOfficeModel", name := "ends", desc := "(I)I" } : Jvm.MethodName)) ∈ lw_all := lw_g (lw_at lw_m8 73 rfl) rfl
theorem q1818 : (Jvm.Cond.privateMethod ({ cls := "LampLeaseOfficeModel", name := "ends", desc := "(I)I" } : Jvm.MethodName)) ∈ lw_tbl := lw_at lw_m8 74 rfl
theorem q1819 : (Jvm.Cond.instanceMethod ({ cls := "LampLeaseOfficeModel", name := "ends", desc := "(I)I" } : Jvm.MethodName)) ∈ lw_all := lw_g (lw_at lw_m8 75 rfl) rfl
theorem q1820 : (Jvm.Cond.code ({ cls := "LampLeaseOfficeModel", name := "ends", desc := "(I)I" } : Jvm.MethodName) prog_12_method_5_code (2 : Nat) (Option.some Jvm.ClassFile.FieldType.int)) ∈ lw_all := lw_g (lw_at lw_m8 76 rfl) rfl
theorem q1822 : (Jvm.Cond.instanceMethod ({ cls := "LampLeaseOfficeModel", name := "addLamp", desc := "(I)I" } : Jvm.MethodName)) ∈ lw_all := lw_g (lw_at lw_m8 78 rfl) rfl
theorem q1823 : (Jvm.Cond.selects "LampLeaseOfficeModel" ({ cls := "LampLeaseOfficeModel", name := "addLamp", desc := "(I)I" } : Jvm.MethodName) ({ cls := "LampLeaseOfficeModel", name := "addLamp", desc := "(I)I" } : Jvm.MethodName)) ∈ lw_all := lw_g (lw_at lw_m8 79 rfl) rfl
theorem q1824 : (Jvm.Cond.code ({ cls := "LampLeaseOfficeModel", name := "addLamp", desc := "(I)I" } : Jvm.MethodName) prog_12_method_20_code (2 : Nat) (Option.some Jvm.ClassFile.FieldType.int)) ∈ lw_all := lw_g (lw_at lw_m8 80 rfl) rfl
theorem q1825 : (Jvm.Cond.methodLink "LampLeaseOfficeModel" (83 : Nat) ({ cls := "LampLeaseOfficeModel", name := "doAddLamp", desc := "(I)I" } : Jvm.MethodName)) ∈ lw_all := lw_g (lw_at lw_m8 81 rfl) rfl
theorem q1826 : (Jvm.Cond.privateMethod ({ cls := "LampLeaseOfficeModel", name := "doAddLamp", desc := "(I)I" } : Jvm.MethodName)) ∈ lw_tbl := lw_at lw_m8 82 rfl
theorem q1827 : (Jvm.Cond.instanceMethod ({ cls := "LampLeaseOfficeModel", name := "doAddLamp", desc := "(I)I" } : Jvm.MethodName)) ∈ lw_all := lw_g (lw_at lw_m8 83 rfl) rfl
theorem q1828 : (Jvm.Cond.code ({ cls := "LampLeaseOfficeModel", name := "doAddLamp", desc := "(I)I" } : Jvm.MethodName) prog_12_method_19_code (4 : Nat) (Option.some Jvm.ClassFile.FieldType.int)) ∈ lw_all := lw_g (lw_at lw_m8 84 rfl) rfl
theorem q1829 : (Jvm.Cond.methodLink "LampLeaseOfficeModel" (54 : Nat) ({ cls := "LampLeaseOfficeModel", name := "in", desc := "(III)Z" } : Jvm.MethodName)) ∈ lw_all := lw_g (lw_at lw_m8 85 rfl) rfl
theorem q1830 : (Jvm.Cond.static ({ cls := "LampLeaseOfficeModel", name := "in", desc := "(III)Z" } : Jvm.MethodName)) ∈ lw_all := lw_g (lw_at lw_m8 86 rfl) rfl
theorem q1831 : (Jvm.Cond.code ({ cls := "LampLeaseOfficeModel", name := "in", desc := "(III)Z" } : Jvm.MethodName) prog_12_method_3_code (3 : Nat) (Option.some Jvm.ClassFile.FieldType.boolean)) ∈ lw_all := lw_g (lw_at lw_m8 87 rfl) rfl
theorem q1832 : (Jvm.Cond.methodLink "LampLeaseOfficeModel" (66 : Nat) ({ cls := "LampLeaseOfficeModel", name := "sets", desc := "(III)V" } : Jvm.MethodName)) ∈ lw_all := lw_g (lw_at lw_m8 88 rfl) rfl
theorem q1833 : (Jvm.Cond.privateMethod ({ cls := "LampLeaseOfficeModel", name := "sets", desc := "(III)V" } : Jvm.MethodName)) ∈ lw_tbl := lw_at lw_m8 89 rfl
theorem q1834 : (Jvm.Cond.instanceMethod ({ cls := "LampLeaseOfficeModel", name := "sets", desc := "(III)V" } : Jvm.MethodName)) ∈ lw_all := lw_g (lw_at lw_m8 90 rfl) rfl
theorem q1835 : (Jvm.Cond.code ({ cls := "LampLeaseOfficeModel", name := "sets", desc := "(III)V" } : Jvm.MethodName) prog_12_method_12_code (4 : Nat) (Option.none : Option Jvm.ClassFile.FieldType)) ∈ lw_all := lw_g (lw_at lw_m8 91 rfl) rfl
theorem q1837 : (Jvm.Cond.instanceMethod ({ cls := "LampLeaseOfficeModel", name := "addOil", desc := "(I)I" } : Jvm.MethodName)) ∈ lw_all := lw_g (lw_at lw_m8 93 rfl) rfl
theorem q1838 : (Jvm.Cond.selects "LampLeaseOfficeModel" ({ cls := "LampLeaseOfficeModel", name := "addOil", desc := "(I)I" } : Jvm.MethodName) ({ cls := "LampLeaseOfficeModel", name := "addOil", desc := "(I)I" } : Jvm.MethodName)) ∈ lw_all := lw_g (lw_at lw_m8 94 rfl) rfl
theorem q1839 : (Jvm.Cond.code ({ cls := "LampLeaseOfficeModel", name := "addOil", desc := "(I)I" } : Jvm.MethodName) prog_12_method_22_code (2 : Nat) (Option.some Jvm.ClassFile.FieldType.int)) ∈ lw_all := lw_g (lw_at lw_m8 95 rfl) rfl
theorem q1840 : (Jvm.Cond.methodLink "LampLeaseOfficeModel" (86 : Nat) ({ cls := "LampLeaseOfficeModel", name := "doAddOil", desc := "(I)I" } : Jvm.MethodName)) ∈ lw_all := lw_g (lw_at lw_m8 96 rfl) rfl
theorem q1841 : (Jvm.Cond.privateMethod ({ cls := "LampLeaseOfficeModel", name := "doAddOil", desc := "(I)I" } : Jvm.MethodName)) ∈ lw_tbl := lw_at lw_m8 97 rfl
theorem q1842 : (Jvm.Cond.instanceMethod ({ cls := "LampLeaseOfficeModel", name := "doAddOil", desc := "(I)I" } : Jvm.MethodName)) ∈ lw_all := lw_g (lw_at lw_m8 98 rfl) rfl
theorem q1843 : (Jvm.Cond.code ({ cls := "LampLeaseOfficeModel", name := "doAddOil", desc := "(I)I" } : Jvm.MethodName) prog_12_method_21_code (2 : Nat) (Option.some Jvm.ClassFile.FieldType.int)) ∈ lw_all := lw_g (lw_at lw_m8 99 rfl) rfl
theorem q1845 : (Jvm.Cond.instanceMethod ({ cls := "LampLeaseOfficeModel", name := "lease", desc := "(III)I" } : Jvm.MethodName)) ∈ lw_all := lw_g (lw_at lw_m8 101 rfl) rfl
theorem q1846 : (Jvm.Cond.selects "LampLeaseOfficeModel" ({ cls := "LampLeaseOfficeModel", name := "lease", desc := "(III)I" } : Jvm.MethodName) ({ cls := "LampLeaseOfficeModel", name := "lease", desc := "(III)I" } : Jvm.MethodName)) ∈ lw_all := lw_g (lw_at lw_m8 102 rfl) rfl
theorem q1847 : (Jvm.Cond.code ({ cls := "LampLeaseOfficeModel", name := "lease", desc := "(III)I" } : Jvm.MethodName) prog_12_method_24_code (4 : Nat) (Option.some Jvm.ClassFile.FieldType.int)) ∈ lw_all := lw_g (lw_at lw_m8 103 rfl) rfl
theorem q1848 : (Jvm.Cond.methodLink "LampLeaseOfficeModel" (106 : Nat) ({ cls := "LampLeaseOfficeModel", name := "doLease", desc := "(III)I" } : Jvm.MethodName)) ∈ lw_all := lw_g (lw_at lw_m8 104 rfl) rfl
theorem q1849 : (Jvm.Cond.privateMethod ({ cls := "LampLeaseOfficeModel", name := "doLease", desc := "(III)I" } : Jvm.MethodName)) ∈ lw_tbl := lw_at lw_m8 105 rfl
theorem q1850 : (Jvm.Cond.instanceMethod ({ cls := "LampLeaseOfficeModel", name := "doLease", desc := "(III)I" } : Jvm.MethodName)) ∈ lw_all := lw_g (lw_at lw_m8 106 rfl) rfl
theorem q1851 : (Jvm.Cond.code ({ cls := "LampLeaseOfficeModel", name := "doLease", desc := "(III)I" } : Jvm.MethodName) prog_12_method_23_code (5 : Nat) (Option.some Jvm.ClassFile.FieldType.int)) ∈ lw_all := lw_g (lw_at lw_m8 107 rfl) rfl
theorem q1852 : (Jvm.Cond.methodLink "LampLeaseOfficeModel" (89 : Nat) ({ cls := "LampLeaseOfficeModel", name := "isShip", desc := "(I)Z" } : Jvm.MethodName)) ∈ lw_all := lw_g (lw_at lw_m8 108 rfl) rfl
theorem q1853 : (Jvm.Cond.privateMethod ({ cls := "LampLeaseOfficeModel", name := "isShip", desc := "(I)Z" } : Jvm.MethodName)) ∈ lw_tbl := lw_at lw_m8 109 rfl
theorem q1854 : (Jvm.Cond.instanceMethod ({ cls := "LampLeaseOfficeModel", name := "isShip", desc := "(I)Z" } : Jvm.MethodName)) ∈ lw_all := lw_g (lw_at lw_m8 110 rfl) rfl
theorem q1855 : (Jvm.Cond.code ({ cls := "LampLeaseOfficeModel", name := "isShip", desc := "(I)Z" } : Jvm.MethodName) prog_12_method_8_code (2 : Nat) (Option.some Jvm.ClassFile.FieldType.boolean)) ∈ lw_all := lw_g (lw_at lw_m8 111 rfl) rfl
theorem q1856 : (Jvm.Cond.methodLink "LampLeaseOfficeModel" (93 : Nat) ({ cls := "LampLeaseOfficeModel", name := "isLamp", desc := "(I)Z" } : Jvm.MethodName)) ∈ lw_all := lw_g (lw_at lw_m8 112 rfl) rfl
theorem q1857 : (Jvm.Cond.privateMethod ({ cls := "LampLeaseOfficeModel", name := "isLamp", desc := "(I)Z" } : Jvm.MethodName)) ∈ lw_tbl := lw_at lw_m8 113 rfl
theorem q1858 : (Jvm.Cond.instanceMethod ({ cls := "LampLeaseOfficeModel", name := "isLamp", desc := "(I)Z" } : Jvm.MethodName)) ∈ lw_all := lw_g (lw_at lw_m8 114 rfl) rfl
theorem q1859 : (Jvm.Cond.code ({ cls := "LampLeaseOfficeModel", name := "isLamp", desc := "(I)Z" } : Jvm.MethodName) prog_12_method_9_code (2 : Nat) (Option.some Jvm.ClassFile.FieldType.boolean)) ∈ lw_all := lw_g (lw_at lw_m8 115 rfl) rfl
theorem q1860 : (Jvm.Cond.methodLink "LampLeaseOfficeModel" (96 : Nat) ({ cls := "LampLeaseOfficeModel", name := "isOut", desc := "(I)Z" } : Jvm.MethodName)) ∈ lw_all := lw_g (lw_at lw_m8 116 rfl) rfl
theorem q1861 : (Jvm.Cond.privateMethod ({ cls := "LampLeaseOfficeModel", name := "isOut", desc := "(I)Z" } : Jvm.MethodName)) ∈ lw_tbl := lw_at lw_m8 117 rfl
theorem q1862 : (Jvm.Cond.instanceMethod ({ cls := "LampLeaseOfficeModel", name := "isOut", desc := "(I)Z" } : Jvm.MethodName)) ∈ lw_all := lw_g (lw_at lw_m8 118 rfl) rfl
theorem q1863 : (Jvm.Cond.code ({ cls := "LampLeaseOfficeModel", name := "isOut", desc := "(I)Z" } : Jvm.MethodName) prog_12_method_13_code (2 : Nat) (Option.some Jvm.ClassFile.FieldType.boolean)) ∈ lw_all := lw_g (lw_at lw_m8 119 rfl) rfl
theorem q1864 : (Jvm.Cond.methodLink "LampLeaseOfficeModel" (58 : Nat) ({ cls := "LampLeaseOfficeModel", name := "of", desc := "(II)I" } : Jvm.MethodName)) ∈ lw_all := lw_g (lw_at lw_m8 120 rfl) rfl
theorem q1865 : (Jvm.Cond.privateMethod ({ cls := "LampLeaseOfficeModel", name := "of", desc := "(II)I" } : Jvm.MethodName)) ∈ lw_tbl := lw_at lw_m8 121 rfl
theorem q1866 : (Jvm.Cond.instanceMethod ({ cls := "LampLeaseOfficeModel", name := "of", desc := "(II)I" } : Jvm.MethodName)) ∈ lw_all := lw_g (lw_at lw_m8 122 rfl) rfl
theorem q1867 : (Jvm.Cond.code ({ cls := "LampLeaseOfficeModel", name := "of", desc := "(II)I" } : Jvm.MethodName) prog_12_method_11_code (3 : Nat) (Option.some Jvm.ClassFile.FieldType.int)) ∈ lw_all := lw_g (lw_at lw_m8 123 rfl) rfl
theorem q1868 : (Jvm.Cond.methodLink "LampLeaseOfficeModel" (99 : Nat) ({ cls := "LampLeaseOfficeModel", name := "ofShip", desc := "(II)I" } : Jvm.MethodName)) ∈ lw_all := lw_g (lw_at lw_m8 124 rfl) rfl
theorem q1869 : (Jvm.Cond.privateMethod ({ cls := "LampLeaseOfficeModel", name := "ofShip", desc := "(II)I" } : Jvm.MethodName)) ∈ lw_tbl := lw_at lw_m8 125 rfl
theorem q1870 : (Jvm.Cond.instanceMethod ({ cls := "LampLeaseOfficeModel", name := "ofShip", desc := "(II)I" } : Jvm.MethodName)) ∈ lw_all := lw_g (lw_at lw_m8 126 rfl) rfl
theorem q1871 : (Jvm.Cond.code ({ cls := "LampLeaseOfficeModel", name := "ofShip", desc := "(II)I" } : Jvm.MethodName) prog_12_method_10_code (3 : Nat) (Option.some Jvm.ClassFile.FieldType.int)) ∈ lw_all := lw_g (lw_at lw_m8 127 rfl) rfl
theorem q1872 : (Jvm.Cond.methodLink "LampLeaseOfficeModel" (102 : Nat) ({ cls := "LampLeaseOfficeModel", name := "pays", desc := "(II)V" } : Jvm.MethodName)) ∈ lw_all := lw_g (lw_at lw_m8 128 rfl) rfl
theorem q1873 : (Jvm.Cond.privateMethod ({ cls := "LampLeaseOfficeModel", name := "pays", desc := "(II)V" } : Jvm.MethodName)) ∈ lw_tbl := lw_at lw_m8 129 rfl
theorem q1874 : (Jvm.Cond.instanceMethod ({ cls := "LampLeaseOfficeModel", name := "pays", desc := "(II)V" } : Jvm.MethodName)) ∈ lw_all := lw_g (lw_at lw_m8 130 rfl) rfl
theorem q1875 : (Jvm.Cond.code ({ cls := "LampLeaseOfficeModel", name := "pays", desc := "(II)V" } : Jvm.MethodName) prog_12_method_14_code (3 : Nat) (Option.none : Option Jvm.ClassFile.FieldType)) ∈ lw_all := lw_g (lw_at lw_m8 131 rfl) rfl
theorem q1877 : (Jvm.Cond.instanceMethod ({ cls := "LampLeaseOfficeModel", name := "requestRenewal", desc := "(II)I" } : Jvm.MethodName)) ∈ lw_all := lw_g (lw_at lw_m8 133 rfl) rfl
theorem q1878 : (Jvm.Cond.selects "LampLeaseOfficeModel" ({ cls := "LampLeaseOfficeModel", name := "requestRenewal", desc := "(II)I" } : Jvm.MethodName) ({ cls := "LampLeaseOfficeModel", name := "requestRenewal", desc := "(II)I" } : Jvm.MethodName)) ∈ lw_all := lw_g (lw_at lw_m8 134 rfl) rfl
theorem q1879 : (Jvm.Cond.code ({ cls := "LampLeaseOfficeModel", name := "requestRenewal", desc := "(II)I" } : Jvm.MethodName) prog_12_method_26_code (3 : Nat) (Option.some Jvm.ClassFile.FieldType.int)) ∈ lw_all := lw_g (lw_at lw_m8 135 rfl) rfl
theorem q1880 : (Jvm.Cond.methodLink "LampLeaseOfficeModel" (110 : Nat) ({ cls := "LampLeaseOfficeModel", name := "doRequestRenewal", desc := "(II)I" } : Jvm.MethodName)) ∈ lw_all := lw_g (lw_at lw_m8 136 rfl) rfl
theorem q1881 : (Jvm.Cond.privateMethod ({ cls := "LampLeaseOfficeModel", name := "doRequestRenewal", desc := "(II)I" } : Jvm.MethodName)) ∈ lw_tbl := lw_at lw_m8 137 rfl
theorem q1882 : (Jvm.Cond.instanceMethod ({ cls := "LampLeaseOfficeModel", name := "doRequestRenewal", desc := "(II)I" } : Jvm.MethodName)) ∈ lw_all := lw_g (lw_at lw_m8 138 rfl) rfl
theorem q1883 : (Jvm.Cond.code ({ cls := "LampLeaseOfficeModel", name := "doRequestRenewal", desc := "(II)I" } : Jvm.MethodName) prog_12_method_25_code (4 : Nat) (Option.some Jvm.ClassFile.FieldType.int)) ∈ lw_all := lw_g (lw_at lw_m8 139 rfl) rfl
theorem q1884 : (Jvm.Cond.methodLink "LampLeaseOfficeModel" (62 : Nat) ({ cls := "LampLeaseOfficeModel", name := "requestFor", desc := "(I)I" } : Jvm.MethodName)) ∈ lw_all := lw_g (lw_at lw_m8 140 rfl) rfl
theorem q1885 : (Jvm.Cond.privateMethod ({ cls := "LampLeaseOfficeModel", name := "requestFor", desc := "(I)I" } : Jvm.MethodName)) ∈ lw_tbl := lw_at lw_m8 141 rfl
theorem q1886 : (Jvm.Cond.instanceMethod ({ cls := "LampLeaseOfficeModel", name := "requestFor", desc := "(I)I" } : Jvm.MethodName)) ∈ lw_all := lw_g (lw_at lw_m8 142 rfl) rfl
theorem q1887 : (Jvm.Cond.code ({ cls := "LampLeaseOfficeModel", name := "requestFor", desc := "(I)I" } : Jvm.MethodName) prog_12_method_15_code (4 : Nat) (Option.some Jvm.ClassFile.FieldType.int)) ∈ lw_all := lw_g (lw_at lw_m8 143 rfl) rfl
theorem q1889 : (Jvm.Cond.instanceMethod ({ cls := "LampLeaseOfficeModel", name := "giveUp", desc := "(I)I" } : Jvm.MethodName)) ∈ lw_all := lw_g (lw_at lw_m8 145 rfl) rfl
theorem q1890 : (Jvm.Cond.selects "LampLeaseOfficeModel" ({ cls := "LampLeaseOfficeModel", name := "giveUp", desc := "(I)I" } : Jvm.MethodName) ({ cls := "LampLeaseOfficeModel", name := "giveUp", desc := "(I)I" } : Jvm.MethodName)) ∈ lw_all := lw_g (lw_at lw_m8 146 rfl) rfl
theorem q1891 : (Jvm.Cond.code ({ cls := "LampLeaseOfficeModel", name := "giveUp", desc := "(I)I" } : Jvm.MethodName) prog_12_method_28_code (2 : Nat) (Option.some Jvm.ClassFile.FieldType.int)) ∈ lw_all := lw_g (lw_at lw_m8 147 rfl) rfl
theorem q1892 : (Jvm.Cond.methodLink "LampLeaseOfficeModel" (117 : Nat) ({ cls := "LampLeaseOfficeModel", name := "doGiveUp", desc := "(I)I" } : Jvm.MethodName)) ∈ lw_all := lw_g (lw_at lw_m8 148 rfl) rfl
theorem q1893 : (Jvm.Cond.privateMethod ({ cls := "LampLeaseOfficeModel", name := "doGiveUp", desc := "(I)I" } : Jvm.MethodName)) ∈ lw_tbl := lw_at lw_m8 149 rfl
theorem q1894 : (Jvm.Cond.instanceMethod ({ cls := "LampLeaseOfficeModel", name := "doGiveUp", desc := "(I)I" } : Jvm.MethodName)) ∈ lw_all := lw_g (lw_at lw_m8 150 rfl) rfl
theorem q1895 : (Jvm.Cond.code ({ cls := "LampLeaseOfficeModel", name := "doGiveUp", desc := "(I)I" } : Jvm.MethodName) prog_12_method_27_code (3 : Nat) (Option.some Jvm.ClassFile.FieldType.int)) ∈ lw_all := lw_g (lw_at lw_m8 151 rfl) rfl
theorem q1896 : (Jvm.Cond.methodLink "LampLeaseOfficeModel" (113 : Nat) ({ cls := "LampLeaseOfficeModel", name := "frees", desc := "(I)V" } : Jvm.MethodName)) ∈ lw_all := lw_g (lw_at lw_m8 152 rfl) rfl
theorem q1897 : (Jvm.Cond.privateMethod ({ cls := "LampLeaseOfficeModel", name := "frees", desc := "(I)V" } : Jvm.MethodName)) ∈ lw_tbl := lw_at lw_m8 153 rfl
theorem q1898 : (Jvm.Cond.instanceMethod ({ cls := "LampLeaseOfficeModel", name := "frees", desc := "(I)V" } : Jvm.MethodName)) ∈ lw_all := lw_g (lw_at lw_m8 154 rfl) rfl
theorem q1899 : (Jvm.Cond.code ({ cls := "LampLeaseOfficeModel", name := "frees", desc := "(I)V" } : Jvm.MethodName) prog_12_method_16_code (4 : Nat) (Option.none : Option Jvm.ClassFile.FieldType)) ∈ lw_all := lw_g (lw_at lw_m8 155 rfl) rfl
theorem q1901 : (Jvm.Cond.instanceMethod ({ cls := "LampLeaseOfficeModel", name := "passHours", desc := "(I)I" } : Jvm.MethodName)) ∈ lw_all := lw_g (lw_at lw_m8 157 rfl) rfl
theorem q1902 : (Jvm.Cond.selects "LampLeaseOfficeModel" ({ cls := "LampLeaseOfficeModel", name := "passHours", desc := "(I)I" } : Jvm.MethodName) ({ cls := "LampLeaseOfficeModel", name := "passHours", desc := "(I)I" } : Jvm.MethodName)) ∈ lw_all := lw_g (lw_at lw_m8 158 rfl) rfl
theorem q1903 : (Jvm.Cond.code ({ cls := "LampLeaseOfficeModel", name := "passHours", desc := "(I)I" } : Jvm.MethodName) prog_12_method_35_code (2 : Nat) (Option.some Jvm.ClassFile.FieldType.int)) ∈ lw_all := lw_g (lw_at lw_m8 159 rfl) rfl
theorem q1904 : (Jvm.Cond.methodLink "LampLeaseOfficeModel" (141 : Nat) ({ cls := "LampLeaseOfficeModel", name := "doPassHours", desc := "(I)I" } : Jvm.MethodName)) ∈ lw_all := lw_g (lw_at lw_m8 160 rfl) rfl
theorem q1905 : (Jvm.Cond.privateMethod ({ cls := "LampLeaseOfficeModel", name := "doPassHours", desc := "(I)I" } : Jvm.MethodName)) ∈ lw_tbl := lw_at lw_m8 161 rfl
theorem q1906 : (Jvm.Cond.instanceMethod ({ cls := "LampLeaseOfficeModel", name := "doPassHours", desc := "(I)I" } : Jvm.MethodName)) ∈ lw_all := lw_g (lw_at lw_m8 162 rfl) rfl
theorem q1907 : (Jvm.Cond.code ({ cls := "LampLeaseOfficeModel", name := "doPassHours", desc := "(I)I" } : Jvm.MethodName) prog_12_method_34_code (5 : Nat) (Option.some Jvm.ClassFile.FieldType.int)) ∈ lw_all := lw_g (lw_at lw_m8 163 rfl) rfl
theorem q1908 : (Jvm.Cond.methodLink "LampLeaseOfficeModel" (129 : Nat) ({ cls := "LampLeaseOfficeModel", name := "renews", desc := "()V" } : Jvm.MethodName)) ∈ lw_all := lw_g (lw_at lw_m8 164 rfl) rfl
theorem q1909 : (Jvm.Cond.privateMethod ({ cls := "LampLeaseOfficeModel", name := "renews", desc := "()V" } : Jvm.MethodName)) ∈ lw_tbl := lw_at lw_m8 165 rfl
theorem q1910 : (Jvm.Cond.instanceMethod ({ cls := "LampLeaseOfficeModel", name := "renews", desc := "()V" } : Jvm.MethodName)) ∈ lw_all := lw_g (lw_at lw_m8 166 rfl) rfl
theorem q1911 : (Jvm.Cond.code ({ cls := "LampLeaseOfficeModel", name := "renews", desc := "()V" } : Jvm.MethodName) prog_12_method_29_code (7 : Nat) (Option.none : Option Jvm.ClassFile.FieldType)) ∈ lw_all := lw_g (lw_at lw_m8 167 rfl) rfl
theorem q1912 : (Jvm.Cond.methodLink "LampLeaseOfficeModel" (132 : Nat) ({ cls := "LampLeaseOfficeModel", name := "burns", desc := "()I" } : Jvm.MethodName)) ∈ lw_all := lw_g (lw_at lw_m8 168 rfl) rfl
theorem q1913 : (Jvm.Cond.privateMethod ({ cls := "LampLeaseOfficeModel", name := "burns", desc := "()I" } : Jvm.MethodName)) ∈ lw_tbl := lw_at lw_m8 169 rfl
theorem q1914 : (Jvm.Cond.instanceMethod ({ cls := "LampLeaseOfficeModel", name := "burns", desc := "()I" } : Jvm.MethodName)) ∈ lw_all := lw_g (lw_at lw_m8 170 rfl) rfl
theorem q1915 : (Jvm.Cond.code ({ cls := "LampLeaseOfficeModel", name := "burns", desc := "()I" } : Jvm.MethodName) prog_12_method_30_code (4 : Nat) (Option.some Jvm.ClassFile.FieldType.int)) ∈ lw_all := lw_g (lw_at lw_m8 171 rfl) rfl
theorem q1916 : (Jvm.Cond.methodLink "LampLeaseOfficeModel" (135 : Nat) ({ cls := "LampLeaseOfficeModel", name := "fines", desc := "()V" } : Jvm.MethodName)) ∈ lw_all := lw_g (lw_at lw_m8 172 rfl) rfl
theorem q1917 : (Jvm.Cond.privateMethod ({ cls := "LampLeaseOfficeModel", name := "fines", desc := "()V" } : Jvm.MethodName)) ∈ lw_tbl := lw_at lw_m8 173 rfl
theorem q1918 : (Jvm.Cond.instanceMethod ({ cls := "LampLeaseOfficeModel", name := "fines", desc := "()V" } : Jvm.MethodName)) ∈ lw_all := lw_g (lw_at lw_m8 174 rfl) rfl
theorem q1919 : (Jvm.Cond.code ({ cls := "LampLeaseOfficeModel", name := "fines", desc := "()V" } : Jvm.MethodName) prog_12_method_32_code (4 : Nat) (Option.none : Option Jvm.ClassFile.FieldType)) ∈ lw_all := lw_g (lw_at lw_m8 175 rfl) rfl
theorem q1920 : (Jvm.Cond.methodLink "LampLeaseOfficeModel" (120 : Nat) ({ cls := "LampLeaseOfficeModel", name := "lampsOf", desc := "(IZ)I" } : Jvm.MethodName)) ∈ lw_all := lw_g (lw_at lw_m8 176 rfl) rfl
theorem q1921 : (Jvm.Cond.privateMethod ({ cls := "LampLeaseOfficeModel", name := "lampsOf", desc := "(IZ)I" } : Jvm.MethodName)) ∈ lw_tbl := lw_at lw_m8 177 rfl
theorem q1922 : (Jvm.Cond.instanceMethod ({ cls := "LampLeaseOfficeModel", name := "lampsOf", desc := "(IZ)I" } : Jvm.MethodName)) ∈ lw_all := lw_g (lw_at lw_m8 178 rfl) rfl
theorem q1923 : (Jvm.Cond.code ({ cls := "LampLeaseOfficeModel", name := "lampsOf", desc := "(IZ)I" } : Jvm.MethodName) prog_12_method_31_code (5 : Nat) (Option.some Jvm.ClassFile.FieldType.int)) ∈ lw_all := lw_g (lw_at lw_m8 179 rfl) rfl
theorem q1924 : (Jvm.Cond.methodLink "LampLeaseOfficeModel" (124 : Nat) ({ cls := "java/lang/Math", name := "min", desc := "(II)I" } : Jvm.MethodName)) ∈ lw_all := lw_g (lw_at lw_m8 180 rfl) rfl
theorem q1925 : (Jvm.Cond.methodLink "LampLeaseOfficeModel" (138 : Nat) ({ cls := "LampLeaseOfficeModel", name := "endsLeases", desc := "()I" } : Jvm.MethodName)) ∈ lw_all := lw_g (lw_at lw_m8 181 rfl) rfl
theorem q1926 : (Jvm.Cond.privateMethod ({ cls := "LampLeaseOfficeModel", name := "endsLeases", desc := "()I" } : Jvm.MethodName)) ∈ lw_tbl := lw_at lw_m8 182 rfl
theorem q1927 : (Jvm.Cond.instanceMethod ({ cls := "LampLeaseOfficeModel", name := "endsLeases", desc := "()I" } : Jvm.MethodName)) ∈ lw_all := lw_g (lw_at lw_m8 183 rfl) rfl
theorem q1928 : (Jvm.Cond.code ({ cls := "LampLeaseOfficeModel", name := "endsLeases", desc := "()I" } : Jvm.MethodName) prog_12_method_33_code (3 : Nat) (Option.some Jvm.ClassFile.FieldType.int)) ∈ lw_all := lw_g (lw_at lw_m8 184 rfl) rfl
theorem q1930 : (Jvm.Cond.instanceMethod ({ cls := "LampLeaseOfficeModel", name := "hour", desc := "()I" } : Jvm.MethodName)) ∈ lw_all := lw_g (lw_at lw_m8 186 rfl) rfl
theorem q1931 : (Jvm.Cond.selects "LampLeaseOfficeModel" ({ cls := "LampLeaseOfficeModel", name := "hour", desc := "()I" } : Jvm.MethodName) ({ cls := "LampLeaseOfficeModel", name := "hour", desc := "()I" } : Jvm.MethodName)) ∈ lw_all := lw_g (lw_at lw_m8 187 rfl) rfl
theorem q1932 : (Jvm.Cond.code ({ cls := "LampLeaseOfficeModel", name := "hour", desc := "()I" } : Jvm.MethodName) prog_12_method_36_code (1 : Nat) (Option.some Jvm.ClassFile.FieldType.int)) ∈ lw_all := lw_g (lw_at lw_m8 188 rfl) rfl
theorem q1934 : (Jvm.Cond.instanceMethod ({ cls := "LampLeaseOfficeModel", name := "shipCount", desc := "()I" } : Jvm.MethodName)) ∈ lw_all := lw_g (lw_at lw_m8 190 rfl) rfl
theorem q1935 : (Jvm.Cond.selects "LampLeaseOfficeModel" ({ cls := "LampLeaseOfficeModel", name := "shipCount", desc := "()I" } : Jvm.MethodName) ({ cls := "LampLeaseOfficeModel", name := "shipCount", desc := "()I" } : Jvm.MethodName)) ∈ lw_all := lw_g (lw_at lw_m8 191 rfl) rfl
theorem q1936 : (Jvm.Cond.code ({ cls := "LampLeaseOfficeModel", name := "shipCount", desc := "()I" } : Jvm.MethodName) prog_12_method_37_code (1 : Nat) (Option.some Jvm.ClassFile.FieldType.int)) ∈ lw_all := lw_g (lw_at lw_m8 192 rfl) rfl
theorem q1938 : (Jvm.Cond.instanceMethod ({ cls := "LampLeaseOfficeModel", name := "coins", desc := "(I)I" } : Jvm.MethodName)) ∈ lw_all := lw_g (lw_at lw_m8 194 rfl) rfl
theorem q1939 : (Jvm.Cond.selects "LampLeaseOfficeModel" ({ cls := "LampLeaseOfficeModel", name := "coins", desc := "(I)I" } : Jvm.MethodName) ({ cls := "LampLeaseOfficeModel", name := "coins", desc := "(I)I" } : Jvm.MethodName)) ∈ lw_all := lw_g (lw_at lw_m8 195 rfl) rfl
theorem q1940 : (Jvm.Cond.code ({ cls := "LampLeaseOfficeModel", name := "coins", desc := "(I)I" } : Jvm.MethodName) prog_12_method_38_code (2 : Nat) (Option.some Jvm.ClassFile.FieldType.int)) ∈ lw_all := lw_g (lw_at lw_m8 196 rfl) rfl
theorem q1941 : (Jvm.Cond.methodLink "LampLeaseOfficeModel" (144 : Nat) ({ cls := "LampLeaseOfficeModel", name := "isThere", desc := "(Z)Z" } : Jvm.MethodName)) ∈ lw_all := lw_g (lw_at lw_m8 197 rfl) rfl
theorem q1942 : (Jvm.Cond.privateMethod ({ cls := "LampLeaseOfficeModel", name := "isThere", desc := "(Z)Z" } : Jvm.MethodName)) ∈ lw_tbl := lw_at lw_m8 198 rfl
theorem q1943 : (Jvm.Cond.instanceMethod ({ cls := "LampLeaseOfficeModel", name := "isThere", desc := "(Z)Z" } : Jvm.MethodName)) ∈ lw_all := lw_g (lw_at lw_m8 199 rfl) rfl
theorem q1944 : (Jvm.Cond.code ({ cls := "LampLeaseOfficeModel", name := "isThere", desc := "(Z)Z" } : Jvm.MethodName) prog_12_method_7_code (2 : Nat) (Option.some Jvm.ClassFile.FieldType.boolean)) ∈ lw_all := lw_g (lw_at lw_m8 200 rfl) rfl
theorem q1946 : (Jvm.Cond.instanceMethod ({ cls := "LampLeaseOfficeModel", name := "finesPaid", desc := "(I)I" } : Jvm.MethodName)) ∈ lw_all := lw_g (lw_at lw_m8 202 rfl) rfl
theorem q1947 : (Jvm.Cond.selects "LampLeaseOfficeModel" ({ cls := "LampLeaseOfficeModel", name := "finesPaid", desc := "(I)I" } : Jvm.MethodName) ({ cls := "LampLeaseOfficeModel", name := "finesPaid", desc := "(I)I" } : Jvm.MethodName)) ∈ lw_all := lw_g (lw_at lw_m8 203 rfl) rfl
theorem q1948 : (Jvm.Cond.code ({ cls := "LampLeaseOfficeModel", name := "finesPaid", desc := "(I)I" } : Jvm.MethodName) prog_12_method_39_code (2 : Nat) (Option.some Jvm.ClassFile.FieldType.int)) ∈ lw_all := lw_g (lw_at lw_m8 204 rfl) rfl
theorem q1950 : (Jvm.Cond.instanceMethod ({ cls := "LampLeaseOfficeModel", name := "darkHours", desc := "(I)I" } : Jvm.MethodName)) ∈ lw_all := lw_g (lw_at lw_m8 206 rfl) rfl
theorem q1951 : (Jvm.Cond.selects "LampLeaseOfficeModel" ({ cls := "LampLeaseOfficeModel", name := "darkHours", desc := "(I)I" } : Jvm.MethodName) ({ cls := "LampLeaseOfficeModel", name := "darkHours", desc := "(I)I" } : Jvm.MethodName)) ∈ lw_all := lw_g (lw_at lw_m8 207 rfl) rfl
theorem q1952 : (Jvm.Cond.code ({ cls := "LampLeaseOfficeModel", name := "darkHours", desc := "(I)I" } : Jvm.MethodName) prog_12_method_40_code (2 : Nat) (Option.some Jvm.ClassFile.FieldType.int)) ∈ lw_all := lw_g (lw_at lw_m8 208 rfl) rfl
theorem q1954 : (Jvm.Cond.instanceMethod ({ cls := "LampLeaseOfficeModel", name := "demand", desc := "(I)I" } : Jvm.MethodName)) ∈ lw_all := lw_g (lw_at lw_m8 210 rfl) rfl
theorem q1955 : (Jvm.Cond.selects "LampLeaseOfficeModel" ({ cls := "LampLeaseOfficeModel", name := "demand", desc := "(I)I" } : Jvm.MethodName) ({ cls := "LampLeaseOfficeModel", name := "demand", desc := "(I)I" } : Jvm.MethodName)) ∈ lw_all := lw_g (lw_at lw_m8 211 rfl) rfl
theorem q1956 : (Jvm.Cond.code ({ cls := "LampLeaseOfficeModel", name := "demand", desc := "(I)I" } : Jvm.MethodName) prog_12_method_42_code (2 : Nat) (Option.some Jvm.ClassFile.FieldType.int)) ∈ lw_all := lw_g (lw_at lw_m8 212 rfl) rfl
theorem q1957 : (Jvm.Cond.methodLink "LampLeaseOfficeModel" (148 : Nat) ({ cls := "LampLeaseOfficeModel", name := "wants", desc := "(I)I" } : Jvm.MethodName)) ∈ lw_all := lw_g (lw_at lw_m8 213 rfl) rfl
theorem q1958 : (Jvm.Cond.privateMethod ({ cls := "LampLeaseOfficeModel", name := "wants", desc := "(I)I" } : Jvm.MethodName)) ∈ lw_tbl := lw_at lw_m8 214 rfl
theorem q1959 : (Jvm.Cond.instanceMethod ({ cls := "LampLeaseOfficeModel", name := "wants", desc := "(I)I" } : Jvm.MethodName)) ∈ lw_all := lw_g (lw_at lw_m8 215 rfl) rfl
theorem q1960 : (Jvm.Cond.code ({ cls := "LampLeaseOfficeModel", name := "wants", desc := "(I)I" } : Jvm.MethodName) prog_12_method_41_code (4 : Nat) (Option.some Jvm.ClassFile.FieldType.int)) ∈ lw_all := lw_g (lw_at lw_m8 216 rfl) rfl
theorem q1962 : (Jvm.Cond.instanceMethod ({ cls := "LampLeaseOfficeModel", name := "leasesOf", desc := "(I)I" } : Jvm.MethodName)) ∈ lw_all := lw_g (lw_at lw_m8 218 rfl) rfl
theorem q1963 : (Jvm.Cond.selects "LampLeaseOfficeModel" ({ cls := "LampLeaseOfficeModel", name := "leasesOf", desc := "(I)I" } : Jvm.MethodName) ({ cls := "LampLeaseOfficeModel", name := "leasesOf", desc := "(I)I" } : Jvm.MethodName)) ∈ lw_all := lw_g (lw_at lw_m8 219 rfl) rfl
theorem q1964 : (Jvm.Cond.code ({ cls := "LampLeaseOfficeModel", name := "leasesOf", desc := "(I)I" } : Jvm.MethodName) prog_12_method_43_code (2 : Nat) (Option.some Jvm.ClassFile.FieldType.int)) ∈ lw_all := lw_g (lw_at lw_m8 220 rfl) rfl
theorem q1966 : (Jvm.Cond.instanceMethod ({ cls := "LampLeaseOfficeModel", name := "lampCount", desc := "()I" } : Jvm.MethodName)) ∈ lw_all := lw_g (lw_at lw_m8 222 rfl) rfl
theorem q1967 : (Jvm.Cond.selects "LampLeaseOfficeModel" ({ cls := "LampLeaseOfficeModel", name := "lampCount", desc := "()I" } : Jvm.MethodName) ({ cls := "LampLeaseOfficeModel", name := "lampCount", desc := "()I" } : Jvm.MethodName)) ∈ lw_all := lw_g (lw_at lw_m8 223 rfl) rfl
theorem q1968 : (Jvm.Cond.code ({ cls := "LampLeaseOfficeModel", name := "lampCount", desc := "()I" } : Jvm.MethodName) prog_12_method_44_code (1 : Nat) (Option.some Jvm.ClassFile.FieldType.int)) ∈ lw_all := lw_g (lw_at lw_m8 224 rfl) rfl
theorem q1970 : (Jvm.Cond.instanceMethod ({ cls := "LampLeaseOfficeModel", name := "level", desc := "(I)I" } : Jvm.MethodName)) ∈ lw_all := lw_g (lw_at lw_m8 226 rfl) rfl
theorem q1971 : (Jvm.Cond.selects "LampLeaseOfficeModel" ({ cls := "LampLeaseOfficeModel", name := "level", desc := "(I)I" } : Jvm.MethodName) ({ cls := "LampLeaseOfficeModel", name := "level", desc := "(I)I" } : Jvm.MethodName)) ∈ lw_all := lw_g (lw_at lw_m8 227 rfl) rfl
theorem q1972 : (Jvm.Cond.code ({ cls := "LampLeaseOfficeModel", name := "level", desc := "(I)I" } : Jvm.MethodName) prog_12_method_45_code (2 : Nat) (Option.some Jvm.ClassFile.FieldType.int)) ∈ lw_all := lw_g (lw_at lw_m8 228 rfl) rfl
theorem q1974 : (Jvm.Cond.instanceMethod ({ cls := "LampLeaseOfficeModel", name := "isLeased", desc := "(I)Z" } : Jvm.MethodName)) ∈ lw_all := lw_g (lw_at lw_m8 230 rfl) rfl
theorem q1975 : (Jvm.Cond.selects "LampLeaseOfficeModel" ({ cls := "LampLeaseOfficeModel", name := "isLeased", desc := "(I)Z" } : Jvm.MethodName) ({ cls := "LampLeaseOfficeModel", name := "isLeased", desc := "(I)Z" } : Jvm.MethodName)) ∈ lw_all := lw_g (lw_at lw_m8 231 rfl) rfl
theorem q1976 : (Jvm.Cond.code ({ cls := "LampLeaseOfficeModel", name := "isLeased", desc := "(I)Z" } : Jvm.MethodName) prog_12_method_46_code (2 : Nat) (Option.some Jvm.ClassFile.FieldType.boolean)) ∈ lw_all := lw_g (lw_at lw_m8 232 rfl) rfl
theorem q1978 : (Jvm.Cond.instanceMethod ({ cls := "LampLeaseOfficeModel", name := "lessee", desc := "(I)I" } : Jvm.MethodName)) ∈ lw_all := lw_g (lw_at lw_m8 234 rfl) rfl
theorem q1979 : (Jvm.Cond.selects "LampLeaseOfficeModel" ({ cls := "LampLeaseOfficeModel", name := "lessee", desc := "(I)I" } : Jvm.MethodName) ({ cls := "LampLeaseOfficeModel", name := "lessee", desc := "(I)I" } : Jvm.MethodName)) ∈ lw_all := lw_g (lw_at lw_m8 235 rfl) rfl
theorem q1980 : (Jvm.Cond.code ({ cls := "LampLeaseOfficeModel", name := "lessee", desc := "(I)I" } : Jvm.MethodName) prog_12_method_47_code (2 : Nat) (Option.some Jvm.ClassFile.FieldType.int)) ∈ lw_all := lw_g (lw_at lw_m8 236 rfl) rfl
theorem q1982 : (Jvm.Cond.instanceMethod ({ cls := "LampLeaseOfficeModel", name := "endHour", desc := "(I)I" } : Jvm.MethodName)) ∈ lw_all := lw_g (lw_at lw_m8 238 rfl) rfl
theorem q1983 : (Jvm.Cond.selects "LampLeaseOfficeModel" ({ cls := "LampLeaseOfficeModel", name := "endHour", desc := "(I)I" } : Jvm.MethodName) ({ cls := "LampLeaseOfficeModel", name := "endHour", desc := "(I)I" } : Jvm.MethodName)) ∈ lw_all := lw_g (lw_at lw_m8 239 rfl) rfl
theorem q1984 : (Jvm.Cond.code ({ cls := "LampLeaseOfficeModel", name := "endHour", desc := "(I)I" } : Jvm.MethodName) prog_12_method_48_code (2 : Nat) (Option.some Jvm.ClassFile.FieldType.int)) ∈ lw_all := lw_g (lw_at lw_m9 0 rfl) rfl
theorem q1986 : (Jvm.Cond.instanceMethod ({ cls := "LampLeaseOfficeModel", name := "brightHours", desc := "(I)I" } : Jvm.MethodName)) ∈ lw_all := lw_g (lw_at lw_m9 2 rfl) rfl
theorem q1987 : (Jvm.Cond.selects "LampLeaseOfficeModel" ({ cls := "LampLeaseOfficeModel", name := "brightHours", desc := "(I)I" } : Jvm.MethodName) ({ cls := "LampLeaseOfficeModel", name := "brightHours", desc := "(I)I" } : Jvm.MethodName)) ∈ lw_all := lw_g (lw_at lw_m9 3 rfl) rfl
theorem q1988 : (Jvm.Cond.code ({ cls := "LampLeaseOfficeModel", name := "brightHours", desc := "(I)I" } : Jvm.MethodName) prog_12_method_49_code (2 : Nat) (Option.some Jvm.ClassFile.FieldType.int)) ∈ lw_all := lw_g (lw_at lw_m9 4 rfl) rfl
theorem q1990 : (Jvm.Cond.instanceMethod ({ cls := "LampLeaseOfficeModel", name := "wasBright", desc := "(I)Z" } : Jvm.MethodName)) ∈ lw_all := lw_g (lw_at lw_m9 6 rfl) rfl
theorem q1991 : (Jvm.Cond.selects "LampLeaseOfficeModel" ({ cls := "LampLeaseOfficeModel", name := "wasBright", desc := "(I)Z" } : Jvm.MethodName) ({ cls := "LampLeaseOfficeModel", name := "wasBright", desc := "(I)Z" } : Jvm.MethodName)) ∈ lw_all := lw_g (lw_at lw_m9 7 rfl) rfl
theorem q1992 : (Jvm.Cond.code ({ cls := "LampLeaseOfficeModel", name := "wasBright", desc := "(I)Z" } : Jvm.MethodName) prog_12_method_50_code (2 : Nat) (Option.some Jvm.ClassFile.FieldType.boolean)) ∈ lw_all := lw_g (lw_at lw_m9 8 rfl) rfl
theorem q1994 : (Jvm.Cond.instanceMethod ({ cls := "LampLeaseOfficeModel", name := "leasedLamps", desc := "()I" } : Jvm.MethodName)) ∈ lw_all := lw_g (lw_at lw_m9 10 rfl) rfl
theorem q1995 : (Jvm.Cond.selects "LampLeaseOfficeModel" ({ cls := "LampLeaseOfficeModel", name := "leasedLamps", desc := "()I" } : Jvm.MethodName) ({ cls := "LampLeaseOfficeModel", name := "leasedLamps", desc := "()I" } : Jvm.MethodName)) ∈ lw_all := lw_g (lw_at lw_m9 11 rfl) rfl
theorem q1996 : (Jvm.Cond.code ({ cls := "LampLeaseOfficeModel", name := "leasedLamps", desc := "()I" } : Jvm.MethodName) prog_12_method_52_code (1 : Nat) (Option.some Jvm.ClassFile.FieldType.int)) ∈ lw_all := lw_g (lw_at lw_m9 12 rfl) rfl
theorem q1997 : (Jvm.Cond.methodLink "LampLeaseOfficeModel" (151 : Nat) ({ cls := "LampLeaseOfficeModel", name := "leased", desc := "()I" } : Jvm.MethodName)) ∈ lw_all := lw_g (lw_at lw_m9 13 rfl) rfl
theorem q1998 : (Jvm.Cond.privateMethod ({ cls := "LampLeaseOfficeModel", name := "leased", desc := "()I" } : Jvm.MethodName)) ∈ lw_tbl := lw_at lw_m9 14 rfl
theorem q1999 : (Jvm.Cond.instanceMethod ({ cls := "LampLeaseOfficeModel", name := "leased", desc := "()I" } : Jvm.MethodName)) ∈ lw_all := lw_g (lw_at lw_m9 15 rfl) rfl
theorem q2000 : (Jvm.Cond.code ({ cls := "LampLeaseOfficeModel", name := "leased", desc := "()I" } : Jvm.MethodName) prog_12_method_51_code (3 : Nat) (Option.some Jvm.ClassFile.FieldType.int)) ∈ lw_all := lw_g (lw_at lw_m9 16 rfl) rfl
theorem q2002 : (Jvm.Cond.instanceMethod ({ cls := "LampLeaseOfficeModel", name := "oil", desc := "()I" } : Jvm.MethodName)) ∈ lw_all := lw_g (lw_at lw_m9 18 rfl) rfl
theorem q2003 : (Jvm.Cond.selects "LampLeaseOfficeModel" ({ cls := "LampLeaseOfficeModel", name := "oil", desc := "()I" } : Jvm.MethodName) ({ cls := "LampLeaseOfficeModel", name := "oil", desc := "()I" } : Jvm.MethodName)) ∈ lw_all := lw_g (lw_at lw_m9 19 rfl) rfl
theorem q2004 : (Jvm.Cond.code ({ cls := "LampLeaseOfficeModel", name := "oil", desc := "()I" } : Jvm.MethodName) prog_12_method_53_code (1 : Nat) (Option.some Jvm.ClassFile.FieldType.int)) ∈ lw_all := lw_g (lw_at lw_m9 20 rfl) rfl
theorem q2006 : (Jvm.Cond.instanceMethod ({ cls := "LampLeaseOfficeModel", name := "consumption", desc := "()I" } : Jvm.MethodName)) ∈ lw_all := lw_g (lw_at lw_m9 22 rfl) rfl
theorem q2007 : (Jvm.Cond.selects "LampLeaseOfficeModel" ({ cls := "LampLeaseOfficeModel", name := "consumption", desc := "()I" } : Jvm.MethodName) ({ cls := "LampLeaseOfficeModel", name := "consumption", desc := "()I" } : Jvm.MethodName)) ∈ lw_all := lw_g (lw_at lw_m9 23 rfl) rfl
theorem q2008 : (Jvm.Cond.code ({ cls := "LampLeaseOfficeModel", name := "consumption", desc := "()I" } : Jvm.MethodName) prog_12_method_55_code (1 : Nat) (Option.some Jvm.ClassFile.FieldType.int)) ∈ lw_all := lw_g (lw_at lw_m9 24 rfl) rfl
theorem q2009 : (Jvm.Cond.methodLink "LampLeaseOfficeModel" (154 : Nat) ({ cls := "LampLeaseOfficeModel", name := "needed", desc := "()I" } : Jvm.MethodName)) ∈ lw_all := lw_g (lw_at lw_m9 25 rfl) rfl
theorem q2010 : (Jvm.Cond.privateMethod ({ cls := "LampLeaseOfficeModel", name := "needed", desc := "()I" } : Jvm.MethodName)) ∈ lw_tbl := lw_at lw_m9 26 rfl
theorem q2011 : (Jvm.Cond.instanceMethod ({ cls := "LampLeaseOfficeModel", name := "needed", desc := "()I" } : Jvm.MethodName)) ∈ lw_all := lw_g (lw_at lw_m9 27 rfl) rfl
theorem q2012 : (Jvm.Cond.code ({ cls := "LampLeaseOfficeModel", name := "needed", desc := "()I" } : Jvm.MethodName) prog_12_method_54_code (3 : Nat) (Option.some Jvm.ClassFile.FieldType.int)) ∈ lw_all := lw_g (lw_at lw_m9 28 rfl) rfl
theorem q2014 : (Jvm.Cond.instanceMethod ({ cls := "LampLeaseOfficeModel", name := "hoursOfOil", desc := "()I" } : Jvm.MethodName)) ∈ lw_all := lw_g (lw_at lw_m9 30 rfl) rfl
theorem q2015 : (Jvm.Cond.selects "LampLeaseOfficeModel" ({ cls := "LampLeaseOfficeModel", name := "hoursOfOil", desc := "()I" } : Jvm.MethodName) ({ cls := "LampLeaseOfficeModel", name := "hoursOfOil", desc := "()I" } : Jvm.MethodName)) ∈ lw_all := lw_g (lw_at lw_m9 31 rfl) rfl
theorem q2016 : (Jvm.Cond.code ({ cls := "LampLeaseOfficeModel", name := "hoursOfOil", desc := "()I" } : Jvm.MethodName) prog_12_method_56_code (4 : Nat) (Option.some Jvm.ClassFile.FieldType.int)) ∈ lw_all := lw_g (lw_at lw_m9 32 rfl) rfl
theorem q2018 : (Jvm.Cond.instanceMethod ({ cls := "LampLeaseOfficeModel", name := "hoursOfOilByEnds", desc := "()I" } : Jvm.MethodName)) ∈ lw_all := lw_g (lw_at lw_m9 34 rfl) rfl
theorem q2019 : (Jvm.Cond.selects "LampLeaseOfficeModel" ({ cls := "LampLeaseOfficeModel", name := "hoursOfOilByEnds", desc := "()I" } : Jvm.MethodName) ({ cls := "LampLeaseOfficeModel", name := "hoursOfOilByEnds", desc := "()I" } : Jvm.MethodName)) ∈ lw_all := lw_g (lw_at lw_m9 35 rfl) rfl
theorem q2020 : (Jvm.Cond.code ({ cls := "LampLeaseOfficeModel", name := "hoursOfOilByEnds", desc := "()I" } : Jvm.MethodName) prog_12_method_57_code (1 : Nat) (Option.some Jvm.ClassFile.FieldType.int)) ∈ lw_all := lw_g (lw_at lw_m9 36 rfl) rfl
theorem q2021 : (Jvm.Cond.methodLink "LampLeaseOfficeModel" (157 : Nat) ({ cls := "LampLeaseOfficeModel", name := "hoursOfOil", desc := "()I" } : Jvm.MethodName)) ∈ lw_all := lw_g (lw_at lw_m9 37 rfl) rfl
theorem q2023 : (Jvm.Cond.instanceMethod ({ cls := "LampLeaseOfficeModel", name := "brightNext", desc := "()I" } : Jvm.MethodName)) ∈ lw_all := lw_g (lw_at lw_m9 39 rfl) rfl
theorem q2024 : (Jvm.Cond.selects "LampLeaseOfficeModel" ({ cls := "LampLeaseOfficeModel", name := "brightNext", desc := "()I" } : Jvm.MethodName) ({ cls := "LampLeaseOfficeModel", name := "brightNext", desc := "()I" } : Jvm.MethodName)) ∈ lw_all := lw_g (lw_at lw_m9 40 rfl) rfl
theorem q2025 : (Jvm.Cond.code ({ cls := "LampLeaseOfficeModel", name := "brightNext", desc := "()I" } : Jvm.MethodName) prog_12_method_58_code (2 : Nat) (Option.some Jvm.ClassFile.FieldType.int)) ∈ lw_all := lw_g (lw_at lw_m9 41 rfl) rfl
theorem q2027 : (Jvm.Cond.instanceMethod ({ cls := "LampLeaseOfficeModel", name := "mostBright", desc := "()I" } : Jvm.MethodName)) ∈ lw_all := lw_g (lw_at lw_m9 43 rfl) rfl
theorem q2028 : (Jvm.Cond.selects "LampLeaseOfficeModel" ({ cls := "LampLeaseOfficeModel", name := "mostBright", desc := "()I" } : Jvm.MethodName) ({ cls := "LampLeaseOfficeModel", name := "mostBright", desc := "()I" } : Jvm.MethodName)) ∈ lw_all := lw_g (lw_at lw_m9 44 rfl) rfl
theorem q2029 : (Jvm.Cond.code ({ cls := "LampLeaseOfficeModel", name := "mostBright", desc := "()I" } : Jvm.MethodName) prog_12_method_59_code (6 : Nat) (Option.some Jvm.ClassFile.FieldType.int)) ∈ lw_all := lw_g (lw_at lw_m9 45 rfl) rfl
theorem q2031 : (Jvm.Cond.instanceMethod ({ cls := "LampLeaseOfficeModel", name := "mostBrightBySums", desc := "()I" } : Jvm.MethodName)) ∈ lw_all := lw_g (lw_at lw_m9 47 rfl) rfl
theorem q2032 : (Jvm.Cond.selects "LampLeaseOfficeModel" ({ cls := "LampLeaseOfficeModel", name := "mostBrightBySums", desc := "()I" } : Jvm.MethodName) ({ cls := "LampLeaseOfficeModel", name := "mostBrightBySums", desc := "()I" } : Jvm.MethodName)) ∈ lw_all := lw_g (lw_at lw_m9 48 rfl) rfl
theorem q2033 : (Jvm.Cond.code ({ cls := "LampLeaseOfficeModel", name := "mostBrightBySums", desc := "()I" } : Jvm.MethodName) prog_12_method_60_code (1 : Nat) (Option.some Jvm.ClassFile.FieldType.int)) ∈ lw_all := lw_g (lw_at lw_m9 49 rfl) rfl
theorem q2034 : (Jvm.Cond.methodLink "LampLeaseOfficeModel" (160 : Nat) ({ cls := "LampLeaseOfficeModel", name := "mostBright", desc := "()I" } : Jvm.MethodName)) ∈ lw_all := lw_g (lw_at lw_m9 50 rfl) rfl
theorem q2036 : (Jvm.Cond.instanceMethod ({ cls := "LampLeaseOfficeModel", name := "share", desc := "(I)I" } : Jvm.MethodName)) ∈ lw_all := lw_g (lw_at lw_m9 52 rfl) rfl
theorem q2037 : (Jvm.Cond.selects "LampLeaseOfficeModel" ({ cls := "LampLeaseOfficeModel", name := "share", desc := "(I)I" } : Jvm.MethodName) ({ cls := "LampLeaseOfficeModel", name := "share", desc := "(I)I" } : Jvm.MethodName)) ∈ lw_all := lw_g (lw_at lw_m9 53 rfl) rfl
theorem q2038 : (Jvm.Cond.code ({ cls := "LampLeaseOfficeModel", name := "share", desc := "(I)I" } : Jvm.MethodName) prog_12_method_62_code (2 : Nat) (Option.some Jvm.ClassFile.FieldType.int)) ∈ lw_all := lw_g (lw_at lw_m9 54 rfl) rfl
theorem q2039 : (Jvm.Cond.methodLink "LampLeaseOfficeModel" (163 : Nat) ({ cls := "LampLeaseOfficeModel", name := "partOf", desc := "(I)I" } : Jvm.MethodName)) ∈ lw_all := lw_g (lw_at lw_m9 55 rfl) rfl
theorem q2040 : (Jvm.Cond.privateMethod ({ cls := "LampLeaseOfficeModel", name := "partOf", desc := "(I)I" } : Jvm.MethodName)) ∈ lw_tbl := lw_at lw_m9 56 rfl
theorem q2041 : (Jvm.Cond.instanceMethod ({ cls := "LampLeaseOfficeModel", name := "partOf", desc := "(I)I" } : Jvm.MethodName)) ∈ lw_all := lw_g (lw_at lw_m9 57 rfl) rfl
theorem q2042 : (Jvm.Cond.code ({ cls := "LampLeaseOfficeModel", name := "partOf", desc := "(I)I" } : Jvm.MethodName) prog_12_method_61_code (8 : Nat) (Option.some Jvm.ClassFile.FieldType.int)) ∈ lw_all := lw_g (lw_at lw_m9 58 rfl) rfl
theorem q2044 : (Jvm.Cond.instanceMethod ({ cls := "LampLeaseOfficeModel", name := "shareByRank", desc := "(I)I" } : Jvm.MethodName)) ∈ lw_all := lw_g (lw_at lw_m9 60 rfl) rfl
theorem q2045 : (Jvm.Cond.selects "LampLeaseOfficeModel" ({ cls := "LampLeaseOfficeModel", name := "shareByRank", desc := "(I)I" } : Jvm.MethodName) ({ cls := "LampLeaseOfficeModel", name := "shareByRank", desc := "(I)I" } : Jvm.MethodName)) ∈ lw_all := lw_g (lw_at lw_m9 61 rfl) rfl
theorem q2046 : (Jvm.Cond.code ({ cls := "LampLeaseOfficeModel", name := "shareByRank", desc := "(I)I" } : Jvm.MethodName) prog_12_method_63_code (2 : Nat) (Option.some Jvm.ClassFile.FieldType.int)) ∈ lw_all := lw_g (lw_at lw_m9 62 rfl) rfl
theorem q2047 : (Jvm.Cond.methodLink "LampLeaseOfficeModel" (166 : Nat) ({ cls := "LampLeaseOfficeModel", name := "share", desc := "(I)I" } : Jvm.MethodName)) ∈ lw_all := lw_g (lw_at lw_m9 63 rfl) rfl
theorem q2049 : (Jvm.Cond.instanceMethod ({ cls := "LampLeaseOfficeModel", name := "requestCount", desc := "()I" } : Jvm.MethodName)) ∈ lw_all := lw_g (lw_at lw_m9 65 rfl) rfl
theorem q2050 : (Jvm.Cond.selects "LampLeaseOfficeModel" ({ cls := "LampLeaseOfficeModel", name := "requestCount", desc := "()I" } : Jvm.MethodName) ({ cls := "LampLeaseOfficeModel", name := "requestCount", desc := "()I" } : Jvm.MethodName)) ∈ lw_all := lw_g (lw_at lw_m9 66 rfl) rfl
theorem q2051 : (Jvm.Cond.code ({ cls := "LampLeaseOfficeModel", name := "requestCount", desc := "()I" } : Jvm.MethodName) prog_12_method_65_code (1 : Nat) (Option.some Jvm.ClassFile.FieldType.int)) ∈ lw_all := lw_g (lw_at lw_m9 67 rfl) rfl
theorem q2053 : (Jvm.Cond.instanceMethod ({ cls := "LampLeaseOfficeModel", name := "requestedLamp", desc := "(I)I" } : Jvm.MethodName)) ∈ lw_all := lw_g (lw_at lw_m9 69 rfl) rfl
theorem q2054 : (Jvm.Cond.selects "LampLeaseOfficeModel" ({ cls := "LampLeaseOfficeModel", name := "requestedLamp", desc := "(I)I" } : Jvm.MethodName) ({ cls := "LampLeaseOfficeModel", name := "requestedLamp", desc := "(I)I" } : Jvm.MethodName)) ∈ lw_all := lw_g (lw_at lw_m9 70 rfl) rfl
theorem q2055 : (Jvm.Cond.code ({ cls := "LampLeaseOfficeModel", name := "requestedLamp", desc := "(I)I" } : Jvm.MethodName) prog_12_method_66_code (2 : Nat) (Option.some Jvm.ClassFile.FieldType.int)) ∈ lw_all := lw_g (lw_at lw_m9 71 rfl) rfl
theorem q2056 : (Jvm.Cond.methodLink "LampLeaseOfficeModel" (169 : Nat) ({ cls := "LampLeaseOfficeModel", name := "isRequest", desc := "(I)Z" } : Jvm.MethodName)) ∈ lw_all := lw_g (lw_at lw_m9 72 rfl) rfl
theorem q2057 : (Jvm.Cond.privateMethod ({ cls := "LampLeaseOfficeModel", name := "isRequest", desc := "(I)Z" } : Jvm.MethodName)) ∈ lw_tbl := lw_at lw_m9 73 rfl
theorem q2058 : (Jvm.Cond.instanceMethod ({ cls := "LampLeaseOfficeModel", name := "isRequest", desc := "(I)Z" } : Jvm.MethodName)) ∈ lw_all := lw_g (lw_at lw_m9 74 rfl) rfl
theorem q2059 : (Jvm.Cond.code ({ cls := "LampLeaseOfficeModel", name := "isRequest", desc := "(I)Z" } : Jvm.MethodName) prog_12_method_64_code (2 : Nat) (Option.some Jvm.ClassFile.FieldType.boolean)) ∈ lw_all := lw_g (lw_at lw_m9 75 rfl) rfl
theorem q2061 : (Jvm.Cond.instanceMethod ({ cls := "LampLeaseOfficeModel", name := "requestedHours", desc := "(I)I" } : Jvm.MethodName)) ∈ lw_all := lw_g (lw_at lw_m9 77 rfl) rfl
theorem q2062 : (Jvm.Cond.selects "LampLeaseOfficeModel" ({ cls := "LampLeaseOfficeModel", name := "requestedHours", desc := "(I)I" } : Jvm.MethodName) ({ cls := "LampLeaseOfficeModel", name := "requestedHours", desc := "(I)I" } : Jvm.MethodName)) ∈ lw_all := lw_g (lw_at lw_m9 78 rfl) rfl
theorem q2063 : (Jvm.Cond.code ({ cls := "LampLeaseOfficeModel", name := "requestedHours", desc := "(I)I" } : Jvm.MethodName) prog_12_method_67_code (2 : Nat) (Option.some Jvm.ClassFile.FieldType.int)) ∈ lw_all := lw_g (lw_at lw_m9 79 rfl) rfl
theorem q2065 : (Jvm.Cond.instanceMethod ({ cls := "LampLeaseOfficeModel", name := "refusedRenewals", desc := "()I" } : Jvm.MethodName)) ∈ lw_all := lw_g (lw_at lw_m9 81 rfl) rfl
theorem q2066 : (Jvm.Cond.selects "LampLeaseOfficeModel" ({ cls := "LampLeaseOfficeModel", name := "refusedRenewals", desc := "()I" } : Jvm.MethodName) ({ cls := "LampLeaseOfficeModel", name := "refusedRenewals", desc := "()I" } : Jvm.MethodName)) ∈ lw_all := lw_g (lw_at lw_m9 82 rfl) rfl
theorem q2067 : (Jvm.Cond.code ({ cls := "LampLeaseOfficeModel", name := "refusedRenewals", desc := "()I" } : Jvm.MethodName) prog_12_method_68_code (1 : Nat) (Option.some Jvm.ClassFile.FieldType.int)) ∈ lw_all := lw_g (lw_at lw_m9 83 rfl) rfl
theorem q2069 : (Jvm.Cond.instanceMethod ({ cls := "LampLeaseOfficeModel", name := "officeCoins", desc := "()I" } : Jvm.MethodName)) ∈ lw_all := lw_g (lw_at lw_m9 85 rfl) rfl
theorem q2070 : (Jvm.Cond.selects "LampLeaseOfficeModel" ({ cls := "LampLeaseOfficeModel", name := "officeCoins", desc := "()I" } : Jvm.MethodName) ({ cls := "LampLeaseOfficeModel", name := "officeCoins", desc := "()I" } : Jvm.MethodName)) ∈ lw_all := lw_g (lw_at lw_m9 86 rfl) rfl
theorem q2071 : (Jvm.Cond.code ({ cls := "LampLeaseOfficeModel", name := "officeCoins", desc := "()I" } : Jvm.MethodName) prog_12_method_69_code (1 : Nat) (Option.some Jvm.ClassFile.FieldType.int)) ∈ lw_all := lw_g (lw_at lw_m9 87 rfl) rfl
theorem q2073 : (Jvm.Cond.instanceMethod ({ cls := "LampLeaseOfficeModel", name := "shipByFines", desc := "(I)I" } : Jvm.MethodName)) ∈ lw_all := lw_g (lw_at lw_m9 89 rfl) rfl
theorem q2074 : (Jvm.Cond.selects "LampLeaseOfficeModel" ({ cls := "LampLeaseOfficeModel", name := "shipByFines", desc := "(I)I" } : Jvm.MethodName) ({ cls := "LampLeaseOfficeModel", name := "shipByFines", desc := "(I)I" } : Jvm.MethodName)) ∈ lw_all := lw_g (lw_at lw_m9 90 rfl) rfl
theorem q2075 : (Jvm.Cond.code ({ cls := "LampLeaseOfficeModel", name := "shipByFines", desc := "(I)I" } : Jvm.MethodName) prog_12_method_70_code (9 : Nat) (Option.some Jvm.ClassFile.FieldType.int)) ∈ lw_all := lw_g (lw_at lw_m9 91 rfl) rfl
theorem q2077 : (Jvm.Cond.instanceMethod ({ cls := "LampLeaseOfficeModel", name := "lampByEnd", desc := "(I)I" } : Jvm.MethodName)) ∈ lw_all := lw_g (lw_at lw_m9 93 rfl) rfl
theorem q2078 : (Jvm.Cond.selects "LampLeaseOfficeModel" ({ cls := "LampLeaseOfficeModel", name := "lampByEnd", desc := "(I)I" } : Jvm.MethodName) ({ cls := "LampLeaseOfficeModel", name := "lampByEnd", desc := "(I)I" } : Jvm.MethodName)) ∈ lw_all := lw_g (lw_at lw_m9 94 rfl) rfl
theorem q2079 : (Jvm.Cond.code ({ cls := "LampLeaseOfficeModel", name := "lampByEnd", desc := "(I)I" } : Jvm.MethodName) prog_12_method_71_code (10 : Nat) (Option.some Jvm.ClassFile.FieldType.int)) ∈ lw_all := lw_g (lw_at lw_m9 95 rfl) rfl
theorem q2081 : (Jvm.Cond.instanceMethod ({ cls := "LampLeaseOfficeModel", name := "meanCoins", desc := "()D" } : Jvm.MethodName)) ∈ lw_all := lw_g (lw_at lw_m9 97 rfl) rfl
theorem q2082 : (Jvm.Cond.selects "LampLeaseOfficeModel" ({ cls := "LampLeaseOfficeModel", name := "meanCoins", desc := "()D" } : Jvm.MethodName) ({ cls := "LampLeaseOfficeModel", name := "meanCoins", desc := "()D" } : Jvm.MethodName)) ∈ lw_all := lw_g (lw_at lw_m9 98 rfl) rfl
theorem q2083 : (Jvm.Cond.code ({ cls := "LampLeaseOfficeModel", name := "meanCoins", desc := "()D" } : Jvm.MethodName) prog_12_method_72_code (4 : Nat) (Option.some Jvm.ClassFile.FieldType.double)) ∈ lw_all := lw_g (lw_at lw_m9 99 rfl) rfl
theorem q2085 : (Jvm.Cond.instanceMethod ({ cls := "LampLeaseOfficeModel", name := "leasedShare", desc := "()F" } : Jvm.MethodName)) ∈ lw_all := lw_g (lw_at lw_m9 101 rfl) rfl
theorem q2086 : (Jvm.Cond.selects "LampLeaseOfficeModel" ({ cls := "LampLeaseOfficeModel", name := "leasedShare", desc := "()F" } : Jvm.MethodName) ({ cls := "LampLeaseOfficeModel", name := "leasedShare", desc := "()F" } : Jvm.MethodName)) ∈ lw_all := lw_g (lw_at lw_m9 102 rfl) rfl
theorem q2087 : (Jvm.Cond.code ({ cls := "LampLeaseOfficeModel", name := "leasedShare", desc := "()F" } : Jvm.MethodName) prog_12_method_73_code (2 : Nat) (Option.some Jvm.ClassFile.FieldType.float)) ∈ lw_all := lw_g (lw_at lw_m9 103 rfl) rfl
theorem q2089 : (Jvm.Cond.instanceMethod ({ cls := "LampLeaseOfficeModel", name := "isConsistent", desc := "()Z" } : Jvm.MethodName)) ∈ lw_all := lw_g (lw_at lw_m9 105 rfl) rfl
theorem q2090 : (Jvm.Cond.selects "LampLeaseOfficeModel" ({ cls := "LampLeaseOfficeModel", name := "isConsistent", desc := "()Z" } : Jvm.MethodName) ({ cls := "LampLeaseOfficeModel", name := "isConsistent", desc := "()Z" } : Jvm.MethodName)) ∈ lw_all := lw_g (lw_at lw_m9 106 rfl) rfl
theorem q2091 : (Jvm.Cond.code ({ cls := "LampLeaseOfficeModel", name := "isConsistent", desc := "()Z" } : Jvm.MethodName) prog_12_method_74_code (1 : Nat) (Option.some Jvm.ClassFile.FieldType.boolean)) ∈ lw_all := lw_g (lw_at lw_m9 107 rfl) rfl
theorem q2093 : (Jvm.Cond.instanceMethod ({ cls := "LampLeaseOfficeModel", name := "writeLamps", desc := "()I" } : Jvm.MethodName)) ∈ lw_all := lw_g (lw_at lw_m9 109 rfl) rfl
theorem q2094 : (Jvm.Cond.selects "LampLeaseOfficeModel" ({ cls := "LampLeaseOfficeModel", name := "writeLamps", desc := "()I" } : Jvm.MethodName) ({ cls := "LampLeaseOfficeModel", name := "writeLamps", desc := "()I" } : Jvm.MethodName)) ∈ lw_all := lw_g (lw_at lw_m9 110 rfl) rfl
theorem q2095 : (Jvm.Cond.code ({ cls := "LampLeaseOfficeModel", name := "writeLamps", desc := "()I" } : Jvm.MethodName) prog_12_method_77_code (2 : Nat) (Option.some Jvm.ClassFile.FieldType.int)) ∈ lw_all := lw_g (lw_at lw_m9 111 rfl) rfl
theorem q2096 : (Jvm.Cond.methodLink "LampLeaseOfficeModel" (178 : Nat) ({ cls := "LampLeaseOfficeModel", name := "says", desc := "(C)V" } : Jvm.MethodName)) ∈ lw_all := lw_g (lw_at lw_m9 112 rfl) rfl
theorem q2097 : (Jvm.Cond.privateMethod ({ cls := "LampLeaseOfficeModel", name := "says", desc := "(C)V" } : Jvm.MethodName)) ∈ lw_tbl := lw_at lw_m9 113 rfl
theorem q2098 : (Jvm.Cond.instanceMethod ({ cls := "LampLeaseOfficeModel", name := "says", desc := "(C)V" } : Jvm.MethodName)) ∈ lw_all := lw_g (lw_at lw_m9 114 rfl) rfl
theorem q2099 : (Jvm.Cond.code ({ cls := "LampLeaseOfficeModel", name := "says", desc := "(C)V" } : Jvm.MethodName) prog_12_method_75_code (2 : Nat) (Option.none : Option Jvm.ClassFile.FieldType)) ∈ lw_all := lw_g (lw_at lw_m9 115 rfl) rfl
theorem q2100 : (Jvm.Cond.methodLink "LampLeaseOfficeModel" (175 : Nat) ({ cls := "LampLeaseOfficeModel", name := "saysNumber", desc := "(I)V" } : Jvm.MethodName)) ∈ lw_all := lw_g (lw_at lw_m9 116 rfl) rfl
theorem q2101 : (Jvm.Cond.privateMethod ({ cls := "LampLeaseOfficeModel", name := "saysNumber", desc := "(I)V" } : Jvm.MethodName)) ∈ lw_tbl := lw_at lw_m9 117 rfl
theorem q2102 : (Jvm.Cond.instanceMethod ({ cls := "LampLeaseOfficeModel", name := "saysNumber", desc := "(I)V" } : Jvm.MethodName)) ∈ lw_all := lw_g (lw_at lw_m9 118 rfl) rfl
theorem q2103 : (Jvm.Cond.code ({ cls := "LampLeaseOfficeModel", name := "saysNumber", desc := "(I)V" } : Jvm.MethodName) prog_12_method_76_code (2 : Nat) (Option.none : Option Jvm.ClassFile.FieldType)) ∈ lw_all := lw_g (lw_at lw_m9 119 rfl) rfl
theorem q2105 : (Jvm.Cond.instanceMethod ({ cls := "LampLeaseOfficeModel", name := "outputChar", desc := "(I)C" } : Jvm.MethodName)) ∈ lw_all := lw_g (lw_at lw_m9 121 rfl) rfl
theorem q2106 : (Jvm.Cond.selects "LampLeaseOfficeModel" ({ cls := "LampLeaseOfficeModel", name := "outputChar", desc := "(I)C" } : Jvm.MethodName) ({ cls := "LampLeaseOfficeModel", name := "outputChar", desc := "(I)C" } : Jvm.MethodName)) ∈ lw_all := lw_g (lw_at lw_m9 122 rfl) rfl
theorem q2107 : (Jvm.Cond.code ({ cls := "LampLeaseOfficeModel", name := "outputChar", desc := "(I)C" } : Jvm.MethodName) prog_12_method_78_code (2 : Nat) (Option.some Jvm.ClassFile.FieldType.char)) ∈ lw_all := lw_g (lw_at lw_m9 123 rfl) rfl
theorem q2109 : (Jvm.Cond.instanceMethod ({ cls := "LampLeaseOfficeModel", name := "feed", desc := "(C)I" } : Jvm.MethodName)) ∈ lw_all := lw_g (lw_at lw_m9 125 rfl) rfl
theorem q2110 : (Jvm.Cond.selects "LampLeaseOfficeModel" ({ cls := "LampLeaseOfficeModel", name := "feed", desc := "(C)I" } : Jvm.MethodName) ({ cls := "LampLeaseOfficeModel", name := "feed", desc := "(C)I" } : Jvm.MethodName)) ∈ lw_all := lw_g (lw_at lw_m9 126 rfl) rfl
theorem q2111 : (Jvm.Cond.code ({ cls := "LampLeaseOfficeModel", name := "feed", desc := "(C)I" } : Jvm.MethodName) prog_12_method_79_code (2 : Nat) (Option.some Jvm.ClassFile.FieldType.int)) ∈ lw_all := lw_g (lw_at lw_m9 127 rfl) rfl
theorem q2113 : (Jvm.Cond.instanceMethod ({ cls := "LampLeaseOfficeModel", name := "runCommands", desc := "()I" } : Jvm.MethodName)) ∈ lw_all := lw_g (lw_at lw_m9 129 rfl) rfl
theorem q2114 : (Jvm.Cond.selects "LampLeaseOfficeModel" ({ cls := "LampLeaseOfficeModel", name := "runCommands", desc := "()I" } : Jvm.MethodName) ({ cls := "LampLeaseOfficeModel", name := "runCommands", desc := "()I" } : Jvm.MethodName)) ∈ lw_all := lw_g (lw_at lw_m9 130 rfl) rfl
theorem q2115 : (Jvm.Cond.code ({ cls := "LampLeaseOfficeModel", name := "runCommands", desc := "()I" } : Jvm.MethodName) prog_12_method_86_code (3 : Nat) (Option.some Jvm.ClassFile.FieldType.int)) ∈ lw_all := lw_g (lw_at lw_m9 131 rfl) rfl
theorem q2116 : (Jvm.Cond.methodLink "LampLeaseOfficeModel" (243 : Nat) ({ cls := "LampLeaseOfficeModel", name := "readCommand", desc := "()V" } : Jvm.MethodName)) ∈ lw_all := lw_g (lw_at lw_m9 132 rfl) rfl
theorem q2117 : (Jvm.Cond.privateMethod ({ cls := "LampLeaseOfficeModel", name := "readCommand", desc := "()V" } : Jvm.MethodName)) ∈ lw_tbl := lw_at lw_m9 133 rfl
theorem q2118 : (Jvm.Cond.instanceMethod ({ cls := "LampLeaseOfficeModel", name := "readCommand", desc := "()V" } : Jvm.MethodName)) ∈ lw_all := lw_g (lw_at lw_m9 134 rfl) rfl
theorem q2119 : (Jvm.Cond.code ({ cls := "LampLeaseOfficeModel", name := "readCommand", desc := "()V" } : Jvm.MethodName) prog_12_method_84_code (4 : Nat) (Option.none : Option Jvm.ClassFile.FieldType)) ∈ lw_all := lw_g (lw_at lw_m9 135 rfl) rfl
theorem q2120 : (Jvm.Cond.methodLink "LampLeaseOfficeModel" (196 : Nat) ({ cls := "LampLeaseOfficeModel", name := "behind", desc := "(I)I" } : Jvm.MethodName)) ∈ lw_all := lw_g (lw_at lw_m9 136 rfl) rfl
theorem q2121 : (Jvm.Cond.privateMethod ({ cls := "LampLeaseOfficeModel", name := "behind", desc := "(I)I" } : Jvm.MethodName)) ∈ lw_tbl := lw_at lw_m9 137 rfl
theorem q2122 : (Jvm.Cond.instanceMethod ({ cls := "LampLeaseOfficeModel", name := "behind", desc := "(I)I" } : Jvm.MethodName)) ∈ lw_all := lw_g (lw_at lw_m9 138 rfl) rfl
theorem q2123 : (Jvm.Cond.code ({ cls := "LampLeaseOfficeModel", name := "behind", desc := "(I)I" } : Jvm.MethodName) prog_12_method_80_code (2 : Nat) (Option.some Jvm.ClassFile.FieldType.int)) ∈ lw_all := lw_g (lw_at lw_m9 139 rfl) rfl
theorem q2124 : (Jvm.Cond.stringRef "LampLeaseOfficeModel" (216 : Nat) "lamp") ∈ lw_tbl := lw_at lw_m9 140 rfl
theorem q2125 : (Jvm.Cond.stringRef "LampLeaseOfficeModel" (218 : Nat) "ship") ∈ lw_tbl := lw_at lw_m9 141 rfl
theorem q2126 : (Jvm.Cond.methodLink "LampLeaseOfficeModel" (205 : Nat) ({ cls := "LampLeaseOfficeModel", name := "skip", desc := "(Ljava/lang/String;)V" } : Jvm.MethodName)) ∈ lw_all := lw_g (lw_at lw_m9 142 rfl) rfl
theorem q2127 : (Jvm.Cond.privateMethod ({ cls := "LampLeaseOfficeModel", name := "skip", desc := "(Ljava/lang/String;)V" } : Jvm.MethodName)) ∈ lw_tbl := lw_at lw_m9 143 rfl
theorem q2128 : (Jvm.Cond.instanceMethod ({ cls := "LampLeaseOfficeModel", name := "skip", desc := "(Ljava/lang/String;)V" } : Jvm.MethodName)) ∈ lw_all := lw_g (lw_at lw_m9 144 rfl) rfl
theorem q2129 : (Jvm.Cond.code ({ cls := "LampLeaseOfficeModel", name := "skip", desc := "(Ljava/lang/String;)V" } : Jvm.MethodName) prog_12_method_81_code (3 : Nat) (Option.none : Option Jvm.ClassFile.FieldType)) ∈ lw_all := lw_g (lw_at lw_m9 145 rfl) rfl
theorem q2130 : (Jvm.Cond.methodLink "LampLeaseOfficeModel" (188 : Nat) ({ cls := "java/lang/String", name := "length", desc := "()I" } : Jvm.MethodName)) ∈ lw_all := lw_g (lw_at lw_m9 146 rfl) rfl
theorem q2131 : (Jvm.Cond.methodLink "LampLeaseOfficeModel" (199 : Nat) ({ cls := "java/lang/String", name := "charAt", desc := "(I)C" } : Jvm.MethodName)) ∈ lw_all := lw_g (lw_at lw_m9 147 rfl) rfl
theorem q2132 : (Jvm.Cond.methodLink "LampLeaseOfficeModel" (220 : Nat) ({ cls := "LampLeaseOfficeModel", name := "readNumber", desc := "(I)I" } : Jvm.MethodName)) ∈ lw_all := lw_g (lw_at lw_m9 148 rfl) rfl
theorem q2133 : (Jvm.Cond.privateMethod ({ cls := "LampLeaseOfficeModel", name := "readNumber", desc := "(I)I" } : Jvm.MethodName)) ∈ lw_tbl := lw_at lw_m9 149 rfl
theorem q2134 : (Jvm.Cond.instanceMethod ({ cls := "LampLeaseOfficeModel", name := "readNumber", desc := "(I)I" } : Jvm.MethodName)) ∈ lw_all := lw_g (lw_at lw_m9 150 rfl) rfl
theorem q2135 : (Jvm.Cond.code ({ cls := "LampLeaseOfficeModel", name := "readNumber", desc := "(I)I" } : Jvm.MethodName) prog_12_method_83_code (4 : Nat) (Option.some Jvm.ClassFile.FieldType.int)) ∈ lw_all := lw_g (lw_at lw_m9 151 rfl) rfl
theorem q2136 : (Jvm.Cond.stringRef "LampLeaseOfficeModel" (203 : Nat) " ") ∈ lw_tbl := lw_at lw_m9 152 rfl
theorem q2137 : (Jvm.Cond.methodLink "LampLeaseOfficeModel" (209 : Nat) ({ cls := "LampLeaseOfficeModel", name := "isDigit", desc := "()Z" } : Jvm.MethodName)) ∈ lw_all := lw_g (lw_at lw_m9 153 rfl) rfl
theorem q2138 : (Jvm.Cond.privateMethod ({ cls := "LampLeaseOfficeModel", name := "isDigit", desc := "()Z" } : Jvm.MethodName)) ∈ lw_tbl := lw_at lw_m9 154 rfl
theorem q2139 : (Jvm.Cond.instanceMethod ({ cls := "LampLeaseOfficeModel", name := "isDigit", desc := "()Z" } : Jvm.MethodName)) ∈ lw_all := lw_g (lw_at lw_m9 155 rfl) rfl
theorem q2140 : (Jvm.Cond.code ({ cls := "LampLeaseOfficeModel", name := "isDigit", desc := "()Z" } : Jvm.MethodName) prog_12_method_82_code (1 : Nat) (Option.some Jvm.ClassFile.FieldType.boolean)) ∈ lw_all := lw_g (lw_at lw_m9 156 rfl) rfl
theorem q2141 : (Jvm.Cond.stringRef "LampLeaseOfficeModel" (223 : Nat) "oil") ∈ lw_tbl := lw_at lw_m9 157 rfl
theorem q2142 : (Jvm.Cond.stringRef "LampLeaseOfficeModel" (225 : Nat) "lease") ∈ lw_tbl := lw_at lw_m9 158 rfl
theorem q2143 : (Jvm.Cond.stringRef "LampLeaseOfficeModel" (227 : Nat) "renew") ∈ lw_tbl := lw_at lw_m9 159 rfl
theorem q2144 : (Jvm.Cond.stringRef "LampLeaseOfficeModel" (229 : Nat) "drop") ∈ lw_tbl := lw_at lw_m9 160 rfl
theorem q2145 : (Jvm.Cond.stringRef "LampLeaseOfficeModel" (231 : Nat) "wait") ∈ lw_tbl := lw_at lw_m9 161 rfl
theorem q2146 : (Jvm.Cond.methodLink "LampLeaseOfficeModel" (246 : Nat) ({ cls := "LampLeaseOfficeModel", name := "does", desc := "(I)Ljava/lang/String;" } : Jvm.MethodName)) ∈ lw_all := lw_g (lw_at lw_m9 162 rfl) rfl
theorem q2147 : (Jvm.Cond.privateMethod ({ cls := "LampLeaseOfficeModel", name := "does", desc := "(I)Ljava/lang/String;" } : Jvm.MethodName)) ∈ lw_tbl := lw_at lw_m9 163 rfl
theorem q2148 : (Jvm.Cond.instanceMethod ({ cls := "LampLeaseOfficeModel", name := "does", desc := "(I)Ljava/lang/String;" } : Jvm.MethodName)) ∈ lw_all := lw_g (lw_at lw_m9 164 rfl) rfl
theorem q2149 : (Jvm.Cond.code ({ cls := "LampLeaseOfficeModel", name := "does", desc := "(I)Ljava/lang/String;" } : Jvm.MethodName) prog_12_method_85_code (5 : Nat) (Option.some (Jvm.ClassFile.FieldType.object "java/lang/String"))) ∈ lw_all := lw_g (lw_at lw_m9 165 rfl) rfl
theorem q2150 : (Jvm.Cond.stringRef "LampLeaseOfficeModel" (233 : Nat) "as") ∈ lw_tbl := lw_at lw_m9 166 rfl
theorem q2151 : (Jvm.Cond.stringRef "LampLeaseOfficeModel" (235 : Nat) "iasu") ∈ lw_tbl := lw_at lw_m9 167 rfl
theorem q2152 : (Jvm.Cond.stringRef "LampLeaseOfficeModel" (237 : Nat) "ians") ∈ lw_tbl := lw_at lw_m9 168 rfl
theorem q2153 : (Jvm.Cond.stringRef "LampLeaseOfficeModel" (239 : Nat) "in") ∈ lw_tbl := lw_at lw_m9 169 rfl
theorem q2154 : (Jvm.Cond.stringRef "LampLeaseOfficeModel" (240 : Nat) "a") ∈ lw_tbl := lw_at lw_m9 170 rfl
theorem q2155 : (Jvm.Cond.stringRef "LampLeaseOfficeModel" (242 : Nat) "s") ∈ lw_tbl := lw_at lw_m9 171 rfl
theorem q2157 : (Jvm.Cond.instanceMethod ({ cls := "LampLeaseOfficeModel", name := "errorPosition", desc := "()I" } : Jvm.MethodName)) ∈ lw_all := lw_g (lw_at lw_m9 173 rfl) rfl
theorem q2158 : (Jvm.Cond.selects "LampLeaseOfficeModel" ({ cls := "LampLeaseOfficeModel", name := "errorPosition", desc := "()I" } : Jvm.MethodName) ({ cls := "LampLeaseOfficeModel", name := "errorPosition", desc := "()I" } : Jvm.MethodName)) ∈ lw_all := lw_g (lw_at lw_m9 174 rfl) rfl
theorem q2159 : (Jvm.Cond.code ({ cls := "LampLeaseOfficeModel", name := "errorPosition", desc := "()I" } : Jvm.MethodName) prog_12_method_87_code (1 : Nat) (Option.some Jvm.ClassFile.FieldType.int)) ∈ lw_all := lw_g (lw_at lw_m9 175 rfl) rfl
theorem q2161 : (Jvm.Cond.instanceMethod ({ cls := "LampLeaseOfficeModel", name := "failedCommand", desc := "()I" } : Jvm.MethodName)) ∈ lw_all := lw_g (lw_at lw_m9 177 rfl) rfl
theorem q2162 : (Jvm.Cond.selects "LampLeaseOfficeModel" ({ cls := "LampLeaseOfficeModel", name := "failedCommand", desc := "()I" } : Jvm.MethodName) ({ cls := "LampLeaseOfficeModel", name := "failedCommand", desc := "()I" } : Jvm.MethodName)) ∈ lw_all := lw_g (lw_at lw_m9 178 rfl) rfl
theorem q2163 : (Jvm.Cond.code ({ cls := "LampLeaseOfficeModel", name := "failedCommand", desc := "()I" } : Jvm.MethodName) prog_12_method_88_code (1 : Nat) (Option.some Jvm.ClassFile.FieldType.int)) ∈ lw_all := lw_g (lw_at lw_m9 179 rfl) rfl
theorem q2165 : (Jvm.Cond.instanceMethod ({ cls := "LampLeaseOfficeModel", name := "failureReason", desc := "()C" } : Jvm.MethodName)) ∈ lw_all := lw_g (lw_at lw_m9 181 rfl) rfl
theorem q2166 : (Jvm.Cond.selects "LampLeaseOfficeModel" ({ cls := "LampLeaseOfficeModel", name := "failureReason", desc := "()C" } : Jvm.MethodName) ({ cls := "LampLeaseOfficeModel", name := "failureReason", desc := "()C" } : Jvm.MethodName)) ∈ lw_all := lw_g (lw_at lw_m9 182 rfl) rfl
theorem q2167 : (Jvm.Cond.code ({ cls := "LampLeaseOfficeModel", name := "failureReason", desc := "()C" } : Jvm.MethodName) prog_12_method_89_code (1 : Nat) (Option.some Jvm.ClassFile.FieldType.char)) ∈ lw_all := lw_g (lw_at lw_m9 183 rfl) rfl
theorem q2169 : (Jvm.Cond.instanceMethod ({ cls := "LampLeaseOfficeModel", name := "undoCount", desc := "()I" } : Jvm.MethodName)) ∈ lw_all := lw_g (lw_at lw_m9 185 rfl) rfl
theorem q2170 : (Jvm.Cond.selects "LampLeaseOfficeModel" ({ cls := "LampLeaseOfficeModel", name := "undoCount", desc := "()I" } : Jvm.MethodName) ({ cls := "LampLeaseOfficeModel", name := "undoCount", desc := "()I" } : Jvm.MethodName)) ∈ lw_all := lw_g (lw_at lw_m9 186 rfl) rfl
theorem q2171 : (Jvm.Cond.code ({ cls := "LampLeaseOfficeModel", name := "undoCount", desc := "()I" } : Jvm.MethodName) prog_12_method_90_code (1 : Nat) (Option.some Jvm.ClassFile.FieldType.int)) ∈ lw_all := lw_g (lw_at lw_m9 187 rfl) rfl
theorem q2173 : (Jvm.Cond.instanceMethod ({ cls := "LampLeaseOfficeModel", name := "undo", desc := "()I" } : Jvm.MethodName)) ∈ lw_all := lw_g (lw_at lw_m9 189 rfl) rfl
theorem q2174 : (Jvm.Cond.selects "LampLeaseOfficeModel" ({ cls := "LampLeaseOfficeModel", name := "undo", desc := "()I" } : Jvm.MethodName) ({ cls := "LampLeaseOfficeModel", name := "undo", desc := "()I" } : Jvm.MethodName)) ∈ lw_all := lw_g (lw_at lw_m9 190 rfl) rfl
theorem q2175 : (Jvm.Cond.code ({ cls := "LampLeaseOfficeModel", name := "undo", desc := "()I" } : Jvm.MethodName) prog_12_method_91_code (1 : Nat) (Option.some Jvm.ClassFile.FieldType.int)) ∈ lw_all := lw_g (lw_at lw_m9 191 rfl) rfl
theorem q2177 : (Jvm.Cond.instanceMethod ({ cls := "LampLeaseOfficeModel", name := "save", desc := "()I" } : Jvm.MethodName)) ∈ lw_all := lw_g (lw_at lw_m9 193 rfl) rfl
theorem q2178 : (Jvm.Cond.selects "LampLeaseOfficeModel" ({ cls := "LampLeaseOfficeModel", name := "save", desc := "()I" } : Jvm.MethodName) ({ cls := "LampLeaseOfficeModel", name := "save", desc := "()I" } : Jvm.MethodName)) ∈ lw_all := lw_g (lw_at lw_m9 194 rfl) rfl
theorem q2179 : (Jvm.Cond.code ({ cls := "LampLeaseOfficeModel", name := "save", desc := "()I" } : Jvm.MethodName) prog_12_method_92_code (1 : Nat) (Option.some Jvm.ClassFile.FieldType.int)) ∈ lw_all := lw_g (lw_at lw_m9 195 rfl) rfl
theorem q2181 : (Jvm.Cond.instanceMethod ({ cls := "LampLeaseOfficeModel", name := "restore", desc := "()I" } : Jvm.MethodName)) ∈ lw_all := lw_g (lw_at lw_m9 197 rfl) rfl
theorem q2182 : (Jvm.Cond.selects "LampLeaseOfficeModel" ({ cls := "LampLeaseOfficeModel", name := "restore", desc := "()I" } : Jvm.MethodName) ({ cls := "LampLeaseOfficeModel", name := "restore", desc := "()I" } : Jvm.MethodName)) ∈ lw_all := lw_g (lw_at lw_m9 198 rfl) rfl
theorem q2183 : (Jvm.Cond.code ({ cls := "LampLeaseOfficeModel", name := "restore", desc := "()I" } : Jvm.MethodName) prog_12_method_93_code (1 : Nat) (Option.some Jvm.ClassFile.FieldType.int)) ∈ lw_all := lw_g (lw_at lw_m9 199 rfl) rfl
theorem q2208 : (Jvm.Cond.castable "LampLeaseOfficeModel" "java/lang/Object") ∈ lw_tbl := lw_at lw_m9 224 rfl
theorem q75 : (Jvm.Cond.initialized "java/util/ArrayList$Itr") ∈ lw_all := lw_g (lw_at lw_m1 11 rfl) rfl
theorem q133 : (Jvm.Cond.fieldLink "java/util/ArrayList$Itr" (37 : Nat) "java/util/ArrayList" "elementData" "[Ljava/lang/Object;") ∈ lw_all := lw_g (lw_at lw_m1 69 rfl) rfl
theorem q134 : (Jvm.Cond.fieldLinkNest "java/util/ArrayList$Itr" (28 : Nat) "java/util/ArrayList" "size" "I" "java/util/ArrayList") ∈ lw_tbl := lw_at lw_m1 70 rfl
theorem q137 : (Jvm.Cond.fieldLink "java/util/ArrayList$Itr" (17 : Nat) "java/util/ArrayList" "modCount" "I") ∈ lw_all := lw_g (lw_at lw_m1 73 rfl) rfl
theorem q271 : (Jvm.Cond.instantiable "java/util/ArrayList$Itr" (4 : Nat)) ∈ lw_all := lw_g (lw_at lw_m1 207 rfl) rfl
theorem q273 : (Jvm.Cond.instanceMethod ({ cls := "java/util/ArrayList$Itr", name := "<init>", desc := "(Ljava/util/ArrayList;)V" } : Jvm.MethodName)) ∈ lw_all := lw_g (lw_at lw_m1 209 rfl) rfl
theorem q274 : (Jvm.Cond.code ({ cls := "java/util/ArrayList$Itr", name := "<init>", desc := "(Ljava/util/ArrayList;)V" } : Jvm.MethodName) prog_44_method_1_code (2 : Nat) (Option.none : Option Jvm.ClassFile.FieldType)) ∈ lw_all := lw_g (lw_at lw_m1 210 rfl) rfl
theorem q275 : (Jvm.Cond.methodLink "java/util/ArrayList$Itr" (7 : Nat) ({ cls := "java/lang/Object", name := "<init>", desc := "()V" } : Jvm.MethodName)) ∈ lw_all := lw_g (lw_at lw_m1 211 rfl) rfl
theorem q276 : (Jvm.Cond.fieldLink "java/util/ArrayList$Itr" (25 : Nat) "java/util/ArrayList$Itr" "cursor" "I") ∈ lw_all := lw_g (lw_at lw_m1 212 rfl) rfl
theorem q277 : (Jvm.Cond.fieldLink "java/util/ArrayList$Itr" (13 : Nat) "java/util/ArrayList$Itr" "lastRet" "I") ∈ lw_all := lw_g (lw_at lw_m1 213 rfl) rfl
theorem q278 : (Jvm.Cond.fieldLink "java/util/ArrayList$Itr" (22 : Nat) "java/util/ArrayList$Itr" "expectedModCount" "I") ∈ lw_all := lw_g (lw_at lw_m1 214 rfl) rfl
theorem q279 : (Jvm.Cond.fieldLink "java/util/ArrayList$Itr" (1 : Nat) "java/util/ArrayList$Itr" "this$0" "Ljava/util/ArrayList;") ∈ lw_all := lw_g (lw_at lw_m1 215 rfl) rfl
theorem q280 : (Jvm.Cond.lays "java/util/ArrayList$Itr" "java/util/ArrayList$Itr" "cursor" "I") ∈ lw_all := lw_g (lw_at lw_m1 216 rfl) rfl
theorem q281 : (Jvm.Cond.soleField "java/util/ArrayList$Itr" "cursor") ∈ lw_all := lw_g (lw_at lw_m1 217 rfl) rfl
theorem q282 : (Jvm.Cond.lays "java/util/ArrayList$Itr" "java/util/ArrayList$Itr" "lastRet" "I") ∈ lw_all := lw_g (lw_at lw_m1 218 rfl) rfl
theorem q283 : (Jvm.Cond.soleField "java/util/ArrayList$Itr" "lastRet") ∈ lw_all := lw_g (lw_at lw_m1 219 rfl) rfl
theorem q284 : (Jvm.Cond.lays "java/util/ArrayList$Itr" "java/util/ArrayList$Itr" "expectedModCount" "I") ∈ lw_all := lw_g (lw_at lw_m1 220 rfl) rfl
theorem q285 : (Jvm.Cond.soleField "java/util/ArrayList$Itr" "expectedModCount") ∈ lw_all := lw_g (lw_at lw_m1 221 rfl) rfl
theorem q286 : (Jvm.Cond.laysFinal "java/util/ArrayList$Itr" "java/util/ArrayList$Itr" "this$0" "Ljava/util/ArrayList;") ∈ lw_all := lw_g (lw_at lw_m1 222 rfl) rfl
theorem q287 : (Jvm.Cond.soleField "java/util/ArrayList$Itr" "this$0") ∈ lw_all := lw_g (lw_at lw_m1 223 rfl) rfl
theorem q288 : (Jvm.Cond.superclass "java/util/ArrayList$Itr" "java/lang/Object") ∈ lw_all := lw_g (lw_at lw_m1 224 rfl) rfl
theorem q293 : (Jvm.Cond.castable "java/util/ArrayList$Itr" "java/util/Iterator") ∈ lw_tbl := lw_at lw_m1 229 rfl
theorem q294 : (Jvm.Cond.selects "java/util/ArrayList$Itr" ({ cls := "java/util/Iterator", name := "hasNext", desc := "()Z" } : Jvm.MethodName) ({ cls := "java/util/ArrayList$Itr", name := "hasNext", desc := "()Z" } : Jvm.MethodName)) ∈ lw_all := lw_g (lw_at lw_m1 230 rfl) rfl
theorem q295 : (Jvm.Cond.unhidden "java/util/ArrayList$Itr" "hasNext" "()Z") ∈ lw_tbl := lw_at lw_m1 231 rfl
theorem q296 : (Jvm.Cond.instanceMethod ({ cls := "java/util/ArrayList$Itr", name := "hasNext", desc := "()Z" } : Jvm.MethodName)) ∈ lw_all := lw_g (lw_at lw_m1 232 rfl) rfl
theorem q297 : (Jvm.Cond.publicMethod ({ cls := "java/util/ArrayList$Itr", name := "hasNext", desc := "()Z" } : Jvm.MethodName)) ∈ lw_tbl := lw_at lw_m1 233 rfl
theorem q298 : (Jvm.Cond.code ({ cls := "java/util/ArrayList$Itr", name := "hasNext", desc := "()Z" } : Jvm.MethodName) prog_44_method_2_code (1 : Nat) (Option.some Jvm.ClassFile.FieldType.boolean)) ∈ lw_all := lw_g (lw_at lw_m1 234 rfl) rfl
theorem q303 : (Jvm.Cond.selects "java/util/ArrayList$Itr" ({ cls := "java/util/Iterator", name := "next", desc := "()Ljava/lang/Object;" } : Jvm.MethodName) ({ cls := "java/util/ArrayList$Itr", name := "next", desc := "()Ljava/lang/Object;" } : Jvm.MethodName)) ∈ lw_all := lw_g (lw_at lw_m1 239 rfl) rfl
theorem q304 : (Jvm.Cond.unhidden "java/util/ArrayList$Itr" "next" "()Ljava/lang/Object;") ∈ lw_tbl := lw_at lw_m2 0 rfl
theorem q305 : (Jvm.Cond.instanceMethod ({ cls := "java/util/ArrayList$Itr", name := "next", desc := "()Ljava/lang/Object;" } : Jvm.MethodName)) ∈ lw_all := lw_g (lw_at lw_m2 1 rfl) rfl
theorem q306 : (Jvm.Cond.publicMethod ({ cls := "java/util/ArrayList$Itr", name := "next", desc := "()Ljava/lang/Object;" } : Jvm.MethodName)) ∈ lw_tbl := lw_at lw_m2 2 rfl
theorem q307 : (Jvm.Cond.code ({ cls := "java/util/ArrayList$Itr", name := "next", desc := "()Ljava/lang/Object;" } : Jvm.MethodName) prog_44_method_3_code (3 : Nat) (Option.some (Jvm.ClassFile.FieldType.object "java/lang/Object"))) ∈ lw_all := lw_g (lw_at lw_m2 3 rfl) rfl
theorem q308 : (Jvm.Cond.methodLink "java/util/ArrayList$Itr" (31 : Nat) ({ cls := "java/util/ArrayList$Itr", name := "checkForComodification", desc := "()V" } : Jvm.MethodName)) ∈ lw_all := lw_g (lw_at lw_m2 4 rfl) rfl
theorem q309 : (Jvm.Cond.instanceMethod ({ cls := "java/util/ArrayList$Itr", name := "checkForComodification", desc := "()V" } : Jvm.MethodName)) ∈ lw_all := lw_g (lw_at lw_m2 5 rfl) rfl
theorem q310 : (Jvm.Cond.selects "java/util/ArrayList$Itr" ({ cls := "java/util/ArrayList$Itr", name := "checkForComodification", desc := "()V" } : Jvm.MethodName) ({ cls := "java/util/ArrayList$Itr", name := "checkForComodification", desc := "()V" } : Jvm.MethodName)) ∈ lw_all := lw_g (lw_at lw_m2 6 rfl) rfl
theorem q311 : (Jvm.Cond.code ({ cls := "java/util/ArrayList$Itr", name := "checkForComodification", desc := "()V" } : Jvm.MethodName) prog_44_method_6_code (1 : Nat) (Option.none : Option Jvm.ClassFile.FieldType)) ∈ lw_all := lw_g (lw_at lw_m2 7 rfl) rfl
theorem q312 : (Jvm.Cond.classLink "java/util/ArrayList$Itr" (34 : Nat) "java/util/NoSuchElementException") ∈ lw_all := lw_g (lw_at lw_m2 8 rfl) rfl
theorem q361 : (Jvm.Cond.methodLink "java/util/ArrayList$Itr" (36 : Nat) ({ cls := "java/util/NoSuchElementException", name := "<init>", desc := "()V" } : Jvm.MethodName)) ∈ lw_all := lw_g (lw_at lw_m2 57 rfl) rfl
theorem q488 : (Jvm.Cond.selects "java/util/ArrayList$Itr" ({ cls := "java/lang/Object", name := "getClass", desc := "()Ljava/lang/Class;" } : Jvm.MethodName) ({ cls := "java/lang/Object", name := "getClass", desc := "()Ljava/lang/Class;" } : Jvm.MethodName)) ∈ lw_all := lw_g (lw_at lw_m2 184 rfl) rfl
theorem q2209 : (Jvm.Cond.castable "java/util/ArrayList$Itr" "java/lang/Object") ∈ lw_tbl := lw_at lw_m9 225 rfl
theorem q76 : (Jvm.Cond.initialized "java/lang/Throwable") ∈ lw_all := lw_g (lw_at lw_m1 12 rfl) rfl
theorem q319 : (Jvm.Cond.declares ({ cls := "java/lang/Throwable", name := "<init>", desc := "()V" } : Jvm.MethodName)) ∈ lw_tbl := lw_at lw_m2 15 rfl
theorem q320 : (Jvm.Cond.declares ({ cls := "java/lang/Throwable", name := "<init>", desc := "(Ljava/lang/String;)V" } : Jvm.MethodName)) ∈ lw_tbl := lw_at lw_m2 16 rfl
theorem q324 : (Jvm.Cond.lays "java/lang/Throwable" "java/lang/Throwable" "cause" "Ljava/lang/Throwable;") ∈ lw_all := lw_g (lw_at lw_m2 20 rfl) rfl
theorem q326 : (Jvm.Cond.lays "java/lang/Throwable" "java/lang/Throwable" "stackTrace" "[Ljava/lang/StackTraceElement;") ∈ lw_all := lw_g (lw_at lw_m2 22 rfl) rfl
theorem q328 : (Jvm.Cond.lays "java/lang/Throwable" "java/lang/Throwable" "suppressedExceptions" "Ljava/util/List;") ∈ lw_all := lw_g (lw_at lw_m2 24 rfl) rfl
theorem q330 : (Jvm.Cond.lays "java/lang/Throwable" "java/lang/Throwable" "detailMessage" "Ljava/lang/String;") ∈ lw_all := lw_g (lw_at lw_m2 26 rfl) rfl
theorem q332 : (Jvm.Cond.lays "java/lang/Throwable" "java/lang/Throwable" "backtrace" "Ljava/lang/Object;") ∈ lw_all := lw_g (lw_at lw_m2 28 rfl) rfl
theorem q333 : (Jvm.Cond.fieldLink "java/lang/Throwable" (198 : Nat) "java/lang/Throwable" "backtrace" "Ljava/lang/Object;") ∈ lw_all := lw_g (lw_at lw_m2 29 rfl) rfl
theorem q334 : (Jvm.Cond.superclass "java/lang/Throwable" "java/lang/Object") ∈ lw_all := lw_g (lw_at lw_m2 30 rfl) rfl
theorem q335 : (Jvm.Cond.instanceMethod ({ cls := "java/lang/Throwable", name := "<init>", desc := "()V" } : Jvm.MethodName)) ∈ lw_all := lw_g (lw_at lw_m2 31 rfl) rfl
theorem q336 : (Jvm.Cond.code ({ cls := "java/lang/Throwable", name := "<init>", desc := "()V" } : Jvm.MethodName) prog_37_method_1_code (1 : Nat) (Option.none : Option Jvm.ClassFile.FieldType)) ∈ lw_all := lw_g (lw_at lw_m2 32 rfl) rfl
theorem q337 : (Jvm.Cond.methodLink "java/lang/Throwable" (1 : Nat) ({ cls := "java/lang/Object", name := "<init>", desc := "()V" } : Jvm.MethodName)) ∈ lw_all := lw_g (lw_at lw_m2 33 rfl) rfl
theorem q338 : (Jvm.Cond.fieldLink "java/lang/Throwable" (13 : Nat) "java/lang/Throwable" "UNASSIGNED_STACK" "[Ljava/lang/StackTraceElement;") ∈ lw_all := lw_g (lw_at lw_m2 34 rfl) rfl
theorem q339 : (Jvm.Cond.laysStatic "java/lang/Throwable" "UNASSIGNED_STACK" "[Ljava/lang/StackTraceElement;") ∈ lw_tbl := lw_at lw_m2 35 rfl
theorem q340 : (Jvm.Cond.fieldLink "java/lang/Throwable" (20 : Nat) "java/lang/Throwable" "SUPPRESSED_SENTINEL" "Ljava/util/List;") ∈ lw_all := lw_g (lw_at lw_m2 36 rfl) rfl
theorem q341 : (Jvm.Cond.laysStatic "java/lang/Throwable" "SUPPRESSED_SENTINEL" "Ljava/util/List;") ∈ lw_tbl := lw_at lw_m2 37 rfl
theorem q342 : (Jvm.Cond.methodLink "java/lang/Throwable" (27 : Nat) ({ cls := "java/lang/Throwable", name := "fillInStackTrace", desc := "()Ljava/lang/Throwable;" } : Jvm.MethodName)) ∈ lw_all := lw_g (lw_at lw_m2 38 rfl) rfl
theorem q343 : (Jvm.Cond.instanceMethod ({ cls := "java/lang/Throwable", name := "fillInStackTrace", desc := "()Ljava/lang/Throwable;" } : Jvm.MethodName)) ∈ lw_all := lw_g (lw_at lw_m2 39 rfl) rfl
theorem q344 : (Jvm.Cond.sameMethod "java/lang/Throwable" "java/lang/Throwable" "fillInStackTrace" "()Ljava/lang/Throwable;") ∈ lw_all := lw_g (lw_at lw_m2 40 rfl) rfl
theorem q355 : (Jvm.Cond.codeSync ({ cls := "java/lang/Throwable", name := "fillInStackTrace", desc := "()Ljava/lang/Throwable;" } : Jvm.MethodName) prog_37_method_18_code (1 : Nat) (Option.some (Jvm.ClassFile.FieldType.object "java/lang/Throwable"))) ∈ lw_all := lw_g (lw_at lw_m2 51 rfl) rfl
theorem q356 : (Jvm.Cond.methodLink "java/lang/Throwable" (202 : Nat) ({ cls := "java/lang/Throwable", name := "fillInStackTrace", desc := "(I)Ljava/lang/Throwable;" } : Jvm.MethodName)) ∈ lw_all := lw_g (lw_at lw_m2 52 rfl) rfl
theorem q357 : (Jvm.Cond.privateMethod ({ cls := "java/lang/Throwable", name := "fillInStackTrace", desc := "(I)Ljava/lang/Throwable;" } : Jvm.MethodName)) ∈ lw_tbl := lw_at lw_m2 53 rfl
theorem q358 : (Jvm.Cond.instanceMethod ({ cls := "java/lang/Throwable", name := "fillInStackTrace", desc := "(I)Ljava/lang/Throwable;" } : Jvm.MethodName)) ∈ lw_all := lw_g (lw_at lw_m2 54 rfl) rfl
theorem q359 : (Jvm.Cond.instantiable "java/lang/Throwable" (6 : Nat)) ∈ lw_all := lw_g (lw_at lw_m2 55 rfl) rfl
theorem q360 : (Jvm.Cond.native ({ cls := "java/lang/Throwable", name := "fillInStackTrace", desc := "(I)Ljava/lang/Throwable;" } : Jvm.MethodName)) ∈ lw_all := lw_g (lw_at lw_m2 56 rfl) rfl
theorem q371 : (Jvm.Cond.fieldLink "java/lang/Throwable" (198 : Nat) "java/lang/Throwable" "backtrace" "Ljava/lang/Object;") ∈ lw_all := lw_g (lw_at lw_m2 67 rfl) rfl
theorem q372 : (Jvm.Cond.fieldLink "java/lang/Throwable" (31 : Nat) "java/lang/Throwable" "detailMessage" "Ljava/lang/String;") ∈ lw_all := lw_g (lw_at lw_m2 68 rfl) rfl
theorem q373 : (Jvm.Cond.fieldLink "java/lang/Throwable" (7 : Nat) "java/lang/Throwable" "cause" "Ljava/lang/Throwable;") ∈ lw_all := lw_g (lw_at lw_m2 69 rfl) rfl
theorem q374 : (Jvm.Cond.fieldLink "java/lang/Throwable" (17 : Nat) "java/lang/Throwable" "stackTrace" "[Ljava/lang/StackTraceElement;") ∈ lw_all := lw_g (lw_at lw_m2 70 rfl) rfl
theorem q375 : (Jvm.Cond.fieldLink "java/lang/Throwable" (24 : Nat) "java/lang/Throwable" "suppressedExceptions" "Ljava/util/List;") ∈ lw_all := lw_g (lw_at lw_m2 71 rfl) rfl
theorem q376 : (Jvm.Cond.soleField "java/lang/Throwable" "backtrace") ∈ lw_all := lw_g (lw_at lw_m2 72 rfl) rfl
theorem q377 : (Jvm.Cond.soleField "java/lang/Throwable" "detailMessage") ∈ lw_all := lw_g (lw_at lw_m2 73 rfl) rfl
theorem q378 : (Jvm.Cond.soleField "java/lang/Throwable" "cause") ∈ lw_all := lw_g (lw_at lw_m2 74 rfl) rfl
theorem q379 : (Jvm.Cond.soleField "java/lang/Throwable" "stackTrace") ∈ lw_all := lw_g (lw_at lw_m2 75 rfl) rfl
theorem q381 : (Jvm.Cond.soleField "java/lang/Throwable" "depth") ∈ lw_all := lw_g (lw_at lw_m2 77 rfl) rfl
theorem q382 : (Jvm.Cond.soleField "java/lang/Throwable" "suppressedExceptions") ∈ lw_all := lw_g (lw_at lw_m2 78 rfl) rfl
theorem q839 : (Jvm.Cond.instanceMethod ({ cls := "java/lang/Throwable", name := "<init>", desc := "(Ljava/lang/String;)V" } : Jvm.MethodName)) ∈ lw_all := lw_g (lw_at lw_m4 55 rfl) rfl
theorem q840 : (Jvm.Cond.code ({ cls := "java/lang/Throwable", name := "<init>", desc := "(Ljava/lang/String;)V" } : Jvm.MethodName) prog_37_method_2_code (2 : Nat) (Option.none : Option Jvm.ClassFile.FieldType)) ∈ lw_all := lw_g (lw_at lw_m4 56 rfl) rfl
theorem q1104 : (Jvm.Cond.instanceMethod ({ cls := "java/lang/Throwable", name := "<init>", desc := "(Ljava/lang/String;Ljava/lang/Throwable;ZZ)V" } : Jvm.MethodName)) ∈ lw_all := lw_g (lw_at lw_m5 80 rfl) rfl
theorem q1105 : (Jvm.Cond.code ({ cls := "java/lang/Throwable", name := "<init>", desc := "(Ljava/lang/String;Ljava/lang/Throwable;ZZ)V" } : Jvm.MethodName) prog_37_method_5_code (5 : Nat) (Option.none : Option Jvm.ClassFile.FieldType)) ∈ lw_all := lw_g (lw_at lw_m5 81 rfl) rfl
theorem q1546 : (Jvm.Cond.instanceMethod ({ cls := "java/lang/Throwable", name := "<init>", desc := "(Ljava/lang/String;Ljava/lang/Throwable;)V" } : Jvm.MethodName)) ∈ lw_all := lw_g (lw_at lw_m7 42 rfl) rfl
theorem q1547 : (Jvm.Cond.code ({ cls := "java/lang/Throwable", name := "<init>", desc := "(Ljava/lang/String;Ljava/lang/Throwable;)V" } : Jvm.MethodName) prog_37_method_3_code (3 : Nat) (Option.none : Option Jvm.ClassFile.FieldType)) ∈ lw_all := lw_g (lw_at lw_m7 43 rfl) rfl
theorem q1663 : (Jvm.Cond.declares ({ cls := "java/lang/Throwable", name := "getCause", desc := "()Ljava/lang/Throwable;" } : Jvm.MethodName)) ∈ lw_tbl := lw_at lw_m7 159 rfl
theorem q1665 : (Jvm.Cond.instanceMethod ({ cls := "java/lang/Throwable", name := "getCause", desc := "()Ljava/lang/Throwable;" } : Jvm.MethodName)) ∈ lw_all := lw_g (lw_at lw_m7 161 rfl) rfl
theorem q1666 : (Jvm.Cond.codeSync ({ cls := "java/lang/Throwable", name := "getCause", desc := "()Ljava/lang/Throwable;" } : Jvm.MethodName) prog_37_method_8_code (1 : Nat) (Option.some (Jvm.ClassFile.FieldType.object "java/lang/Throwable"))) ∈ lw_all := lw_g (lw_at lw_m7 162 rfl) rfl
theorem q2186 : (Jvm.Cond.sameMethod "java/lang/Throwable" "java/lang/Throwable" "fillInStackTrace" "(I)Ljava/lang/Throwable;") ∈ lw_all := lw_g (lw_at lw_m9 202 rfl) rfl
theorem q2227 : (Jvm.Cond.castable "java/lang/Throwable" "java/lang/Object") ∈ lw_tbl := lw_at lw_m10 3 rfl
theorem q77 : (Jvm.Cond.initialized "java/lang/Exception") ∈ lw_all := lw_g (lw_at lw_m1 13 rfl) rfl
theorem q317 : (Jvm.Cond.declares ({ cls := "java/lang/Exception", name := "<init>", desc := "()V" } : Jvm.MethodName)) ∈ lw_tbl := lw_at lw_m2 13 rfl
theorem q318 : (Jvm.Cond.declares ({ cls := "java/lang/Exception", name := "<init>", desc := "(Ljava/lang/String;)V" } : Jvm.MethodName)) ∈ lw_tbl := lw_at lw_m2 14 rfl
theorem q368 : (Jvm.Cond.instanceMethod ({ cls := "java/lang/Exception", name := "<init>", desc := "()V" } : Jvm.MethodName)) ∈ lw_all := lw_g (lw_at lw_m2 64 rfl) rfl
theorem q369 : (Jvm.Cond.code ({ cls := "java/lang/Exception", name := "<init>", desc := "()V" } : Jvm.MethodName) prog_21_method_1_code (1 : Nat) (Option.none : Option Jvm.ClassFile.FieldType)) ∈ lw_all := lw_g (lw_at lw_m2 65 rfl) rfl
theorem q370 : (Jvm.Cond.methodLink "java/lang/Exception" (1 : Nat) ({ cls := "java/lang/Throwable", name := "<init>", desc := "()V" } : Jvm.MethodName)) ∈ lw_all := lw_g (lw_at lw_m2 66 rfl) rfl
theorem q836 : (Jvm.Cond.instanceMethod ({ cls := "java/lang/Exception", name := "<init>", desc := "(Ljava/lang/String;)V" } : Jvm.MethodName)) ∈ lw_all := lw_g (lw_at lw_m4 52 rfl) rfl
theorem q837 : (Jvm.Cond.code ({ cls := "java/lang/Exception", name := "<init>", desc := "(Ljava/lang/String;)V" } : Jvm.MethodName) prog_21_method_2_code (2 : Nat) (Option.none : Option Jvm.ClassFile.FieldType)) ∈ lw_all := lw_g (lw_at lw_m4 53 rfl) rfl
theorem q838 : (Jvm.Cond.methodLink "java/lang/Exception" (7 : Nat) ({ cls := "java/lang/Throwable", name := "<init>", desc := "(Ljava/lang/String;)V" } : Jvm.MethodName)) ∈ lw_all := lw_g (lw_at lw_m4 54 rfl) rfl
theorem q1101 : (Jvm.Cond.instanceMethod ({ cls := "java/lang/Exception", name := "<init>", desc := "(Ljava/lang/String;Ljava/lang/Throwable;ZZ)V" } : Jvm.MethodName)) ∈ lw_all := lw_g (lw_at lw_m5 77 rfl) rfl
theorem q1102 : (Jvm.Cond.code ({ cls := "java/lang/Exception", name := "<init>", desc := "(Ljava/lang/String;Ljava/lang/Throwable;ZZ)V" } : Jvm.MethodName) prog_21_method_5_code (5 : Nat) (Option.none : Option Jvm.ClassFile.FieldType)) ∈ lw_all := lw_g (lw_at lw_m5 78 rfl) rfl
theorem q1103 : (Jvm.Cond.methodLink "java/lang/Exception" (16 : Nat) ({ cls := "java/lang/Throwable", name := "<init>", desc := "(Ljava/lang/String;Ljava/lang/Throwable;ZZ)V" } : Jvm.MethodName)) ∈ lw_all := lw_g (lw_at lw_m5 79 rfl) rfl
theorem q1543 : (Jvm.Cond.instanceMethod ({ cls := "java/lang/Exception", name := "<init>", desc := "(Ljava/lang/String;Ljava/lang/Throwable;)V" } : Jvm.MethodName)) ∈ lw_all := lw_g (lw_at lw_m7 39 rfl) rfl
theorem q1544 : (Jvm.Cond.code ({ cls := "java/lang/Exception", name := "<init>", desc := "(Ljava/lang/String;Ljava/lang/Throwable;)V" } : Jvm.MethodName) prog_21_method_3_code (3 : Nat) (Option.none : Option Jvm.ClassFile.FieldType)) ∈ lw_all := lw_g (lw_at lw_m7 40 rfl) rfl
theorem q1545 : (Jvm.Cond.methodLink "java/lang/Exception" (10 : Nat) ({ cls := "java/lang/Throwable", name := "<init>", desc := "(Ljava/lang/String;Ljava/lang/Throwable;)V" } : Jvm.MethodName)) ∈ lw_all := lw_g (lw_at lw_m7 41 rfl) rfl
theorem q78 : (Jvm.Cond.initialized "java/lang/RuntimeException") ∈ lw_all := lw_g (lw_at lw_m1 14 rfl) rfl
theorem q315 : (Jvm.Cond.declares ({ cls := "java/lang/RuntimeException", name := "<init>", desc := "()V" } : Jvm.MethodName)) ∈ lw_tbl := lw_at lw_m2 11 rfl
theorem q316 : (Jvm.Cond.declares ({ cls := "java/lang/RuntimeException", name := "<init>", desc := "(Ljava/lang/String;)V" } : Jvm.MethodName)) ∈ lw_tbl := lw_at lw_m2 12 rfl
theorem q365 : (Jvm.Cond.instanceMethod ({ cls := "java/lang/RuntimeException", name := "<init>", desc := "()V" } : Jvm.MethodName)) ∈ lw_all := lw_g (lw_at lw_m2 61 rfl) rfl
theorem q366 : (Jvm.Cond.code ({ cls := "java/lang/RuntimeException", name := "<init>", desc := "()V" } : Jvm.MethodName) prog_29_method_1_code (1 : Nat) (Option.none : Option Jvm.ClassFile.FieldType)) ∈ lw_all := lw_g (lw_at lw_m2 62 rfl) rfl
theorem q367 : (Jvm.Cond.methodLink "java/lang/RuntimeException" (1 : Nat) ({ cls := "java/lang/Exception", name := "<init>", desc := "()V" } : Jvm.MethodName)) ∈ lw_all := lw_g (lw_at lw_m2 63 rfl) rfl
theorem q833 : (Jvm.Cond.instanceMethod ({ cls := "java/lang/RuntimeException", name := "<init>", desc := "(Ljava/lang/String;)V" } : Jvm.MethodName)) ∈ lw_all := lw_g (lw_at lw_m4 49 rfl) rfl
theorem q834 : (Jvm.Cond.code ({ cls := "java/lang/RuntimeException", name := "<init>", desc := "(Ljava/lang/String;)V" } : Jvm.MethodName) prog_29_method_2_code (2 : Nat) (Option.none : Option Jvm.ClassFile.FieldType)) ∈ lw_all := lw_g (lw_at lw_m4 50 rfl) rfl
theorem q835 : (Jvm.Cond.methodLink "java/lang/RuntimeException" (7 : Nat) ({ cls := "java/lang/Exception", name := "<init>", desc := "(Ljava/lang/String;)V" } : Jvm.MethodName)) ∈ lw_all := lw_g (lw_at lw_m4 51 rfl) rfl
theorem q79 : (Jvm.Cond.initialized "java/util/NoSuchElementException") ∈ lw_all := lw_g (lw_at lw_m1 15 rfl) rfl
theorem q313 : (Jvm.Cond.instantiable "java/util/NoSuchElementException" (6 : Nat)) ∈ lw_all := lw_g (lw_at lw_m2 9 rfl) rfl
theorem q314 : (Jvm.Cond.castable "java/util/NoSuchElementException" "java/util/NoSuchElementException") ∈ lw_tbl := lw_at lw_m2 10 rfl
theorem q321 : (Jvm.Cond.selects "java/util/NoSuchElementException" ({ cls := "java/lang/Throwable", name := "fillInStackTrace", desc := "(I)Ljava/lang/Throwable;" } : Jvm.MethodName) ({ cls := "java/lang/Throwable", name := "fillInStackTrace", desc := "(I)Ljava/lang/Throwable;" } : Jvm.MethodName)) ∈ lw_all := lw_g (lw_at lw_m2 17 rfl) rfl
theorem q322 : (Jvm.Cond.selects "java/util/NoSuchElementException" ({ cls := "java/lang/Throwable", name := "fillInStackTrace", desc := "()Ljava/lang/Throwable;" } : Jvm.MethodName) ({ cls := "java/lang/Throwable", name := "fillInStackTrace", desc := "()Ljava/lang/Throwable;" } : Jvm.MethodName)) ∈ lw_all := lw_g (lw_at lw_m2 18 rfl) rfl
theorem q323 : (Jvm.Cond.lays "java/util/NoSuchElementException" "java/lang/Throwable" "cause" "Ljava/lang/Throwable;") ∈ lw_all := lw_g (lw_at lw_m2 19 rfl) rfl
theorem q325 : (Jvm.Cond.lays "java/util/NoSuchElementException" "java/lang/Throwable" "stackTrace" "[Ljava/lang/StackTraceElement;") ∈ lw_all := lw_g (lw_at lw_m2 21 rfl) rfl
theorem q327 : (Jvm.Cond.lays "java/util/NoSuchElementException" "java/lang/Throwable" "suppressedExceptions" "Ljava/util/List;") ∈ lw_all := lw_g (lw_at lw_m2 23 rfl) rfl
theorem q329 : (Jvm.Cond.lays "java/util/NoSuchElementException" "java/lang/Throwable" "detailMessage" "Ljava/lang/String;") ∈ lw_all := lw_g (lw_at lw_m2 25 rfl) rfl
theorem q331 : (Jvm.Cond.lays "java/util/NoSuchElementException" "java/lang/Throwable" "backtrace" "Ljava/lang/Object;") ∈ lw_all := lw_g (lw_at lw_m2 27 rfl) rfl
theorem q362 : (Jvm.Cond.instanceMethod ({ cls := "java/util/NoSuchElementException", name := "<init>", desc := "()V" } : Jvm.MethodName)) ∈ lw_all := lw_g (lw_at lw_m2 58 rfl) rfl
theorem q363 : (Jvm.Cond.code ({ cls := "java/util/NoSuchElementException", name := "<init>", desc := "()V" } : Jvm.MethodName) prog_49_method_1_code (1 : Nat) (Option.none : Option Jvm.ClassFile.FieldType)) ∈ lw_all := lw_g (lw_at lw_m2 59 rfl) rfl
theorem q364 : (Jvm.Cond.methodLink "java/util/NoSuchElementException" (1 : Nat) ({ cls := "java/lang/RuntimeException", name := "<init>", desc := "()V" } : Jvm.MethodName)) ∈ lw_all := lw_g (lw_at lw_m2 60 rfl) rfl
theorem q380 : (Jvm.Cond.lays "java/util/NoSuchElementException" "java/lang/Throwable" "depth" "I") ∈ lw_all := lw_g (lw_at lw_m2 76 rfl) rfl
theorem q383 : (Jvm.Cond.superclass "java/util/NoSuchElementException" "java/lang/RuntimeException") ∈ lw_all := lw_g (lw_at lw_m2 79 rfl) rfl
theorem q489 : (Jvm.Cond.selects "java/util/NoSuchElementException" ({ cls := "java/lang/Object", name := "getClass", desc := "()Ljava/lang/Class;" } : Jvm.MethodName) ({ cls := "java/lang/Object", name := "getClass", desc := "()Ljava/lang/Class;" } : Jvm.MethodName)) ∈ lw_all := lw_g (lw_at lw_m2 185 rfl) rfl
theorem q2210 : (Jvm.Cond.castable "java/util/NoSuchElementException" "java/lang/Object") ∈ lw_tbl := lw_at lw_m9 226 rfl
theorem q80 : (Jvm.Cond.initialized "LampLeaseOffice$Ship") ∈ lw_all := lw_g (lw_at lw_m1 16 rfl) rfl
theorem q413 : (Jvm.Cond.instanceMethod ({ cls := "LampLeaseOffice$Ship", name := "copy", desc := "()LLampLeaseOffice$Ship;" } : Jvm.MethodName)) ∈ lw_all := lw_g (lw_at lw_m2 109 rfl) rfl
theorem q414 : (Jvm.Cond.selects "LampLeaseOffice$Ship" ({ cls := "LampLeaseOffice$Ship", name := "copy", desc := "()LLampLeaseOffice$Ship;" } : Jvm.MethodName) ({ cls := "LampLeaseOffice$Ship", name := "copy", desc := "()LLampLeaseOffice$Ship;" } : Jvm.MethodName)) ∈ lw_all := lw_g (lw_at lw_m2 110 rfl) rfl
theorem q415 : (Jvm.Cond.code ({ cls := "LampLeaseOffice$Ship", name := "copy", desc := "()LLampLeaseOffice$Ship;" } : Jvm.MethodName) prog_8_method_2_code (2 : Nat) (Option.some (Jvm.ClassFile.FieldType.object "LampLeaseOffice$Ship"))) ∈ lw_all := lw_g (lw_at lw_m2 111 rfl) rfl
theorem q416 : (Jvm.Cond.classLink "LampLeaseOffice$Ship" (10 : Nat) "LampLeaseOffice$Ship") ∈ lw_all := lw_g (lw_at lw_m2 112 rfl) rfl
theorem q417 : (Jvm.Cond.instantiable "LampLeaseOffice$Ship" (3 : Nat)) ∈ lw_all := lw_g (lw_at lw_m2 113 rfl) rfl
theorem q418 : (Jvm.Cond.methodLink "LampLeaseOffice$Ship" (15 : Nat) ({ cls := "LampLeaseOffice$Ship", name := "<init>", desc := "()V" } : Jvm.MethodName)) ∈ lw_all := lw_g (lw_at lw_m2 114 rfl) rfl
theorem q419 : (Jvm.Cond.instanceMethod ({ cls := "LampLeaseOffice$Ship", name := "<init>", desc := "()V" } : Jvm.MethodName)) ∈ lw_all := lw_g (lw_at lw_m2 115 rfl) rfl
theorem q420 : (Jvm.Cond.code ({ cls := "LampLeaseOffice$Ship", name := "<init>", desc := "()V" } : Jvm.MethodName) prog_8_method_1_code (1 : Nat) (Option.none : Option Jvm.ClassFile.FieldType)) ∈ lw_all := lw_g (lw_at lw_m2 116 rfl) rfl
theorem q421 : (Jvm.Cond.methodLink "LampLeaseOffice$Ship" (3 : Nat) ({ cls := "java/lang/Object", name := "<init>", desc := "()V" } : Jvm.MethodName)) ∈ lw_all := lw_g (lw_at lw_m2 117 rfl) rfl
theorem q422 : (Jvm.Cond.fieldLink "LampLeaseOffice$Ship" (9 : Nat) "LampLeaseOffice$Ship" "coins" "I") ∈ lw_all := lw_g (lw_at lw_m2 118 rfl) rfl
theorem q424 : (Jvm.Cond.fieldLink "LampLeaseOffice$Ship" (16 : Nat) "LampLeaseOffice$Ship" "fines" "I") ∈ lw_all := lw_g (lw_at lw_m2 120 rfl) rfl
theorem q426 : (Jvm.Cond.fieldLink "LampLeaseOffice$Ship" (19 : Nat) "LampLeaseOffice$Ship" "darkHours" "I") ∈ lw_all := lw_g (lw_at lw_m2 122 rfl) rfl
theorem q428 : (Jvm.Cond.lays "LampLeaseOffice$Ship" "LampLeaseOffice$Ship" "coins" "I") ∈ lw_all := lw_g (lw_at lw_m2 124 rfl) rfl
theorem q429 : (Jvm.Cond.soleField "LampLeaseOffice$Ship" "coins") ∈ lw_all := lw_g (lw_at lw_m2 125 rfl) rfl
theorem q430 : (Jvm.Cond.lays "LampLeaseOffice$Ship" "LampLeaseOffice$Ship" "fines" "I") ∈ lw_all := lw_g (lw_at lw_m2 126 rfl) rfl
theorem q431 : (Jvm.Cond.soleField "LampLeaseOffice$Ship" "fines") ∈ lw_all := lw_g (lw_at lw_m2 127 rfl) rfl
theorem q432 : (Jvm.Cond.lays "LampLeaseOffice$Ship" "LampLeaseOffice$Ship" "darkHours" "I") ∈ lw_all := lw_g (lw_at lw_m2 128 rfl) rfl
theorem q433 : (Jvm.Cond.soleField "LampLeaseOffice$Ship" "darkHours") ∈ lw_all := lw_g (lw_at lw_m2 129 rfl) rfl
theorem q434 : (Jvm.Cond.superclass "LampLeaseOffice$Ship" "java/lang/Object") ∈ lw_all := lw_g (lw_at lw_m2 130 rfl) rfl
theorem q474 : (Jvm.Cond.selects "LampLeaseOffice$Ship" ({ cls := "java/lang/Object", name := "getClass", desc := "()Ljava/lang/Class;" } : Jvm.MethodName) ({ cls := "java/lang/Object", name := "getClass", desc := "()Ljava/lang/Class;" } : Jvm.MethodName)) ∈ lw_all := lw_g (lw_at lw_m2 170 rfl) rfl
theorem q1085 : (Jvm.Cond.instanceMethod ({ cls := "LampLeaseOffice$Ship", name := "pay", desc := "(I)I" } : Jvm.MethodName)) ∈ lw_all := lw_g (lw_at lw_m5 61 rfl) rfl
theorem q1086 : (Jvm.Cond.selects "LampLeaseOffice$Ship" ({ cls := "LampLeaseOffice$Ship", name := "pay", desc := "(I)I" } : Jvm.MethodName) ({ cls := "LampLeaseOffice$Ship", name := "pay", desc := "(I)I" } : Jvm.MethodName)) ∈ lw_all := lw_g (lw_at lw_m5 62 rfl) rfl
theorem q1087 : (Jvm.Cond.code ({ cls := "LampLeaseOffice$Ship", name := "pay", desc := "(I)I" } : Jvm.MethodName) prog_8_method_3_code (2 : Nat) (Option.some Jvm.ClassFile.FieldType.int)) ∈ lw_all := lw_g (lw_at lw_m5 63 rfl) rfl
theorem q1088 : (Jvm.Cond.classLink "LampLeaseOffice$Ship" (22 : Nat) "LampLeaseOffice$PoorException") ∈ lw_all := lw_g (lw_at lw_m5 64 rfl) rfl
theorem q1097 : (Jvm.Cond.methodLink "LampLeaseOffice$Ship" (24 : Nat) ({ cls := "LampLeaseOffice$PoorException", name := "<init>", desc := "()V" } : Jvm.MethodName)) ∈ lw_all := lw_g (lw_at lw_m5 73 rfl) rfl
theorem q1214 : (Jvm.Cond.instanceMethod ({ cls := "LampLeaseOffice$Ship", name := "fine", desc := "(I)I" } : Jvm.MethodName)) ∈ lw_all := lw_g (lw_at lw_m5 190 rfl) rfl
theorem q1215 : (Jvm.Cond.selects "LampLeaseOffice$Ship" ({ cls := "LampLeaseOffice$Ship", name := "fine", desc := "(I)I" } : Jvm.MethodName) ({ cls := "LampLeaseOffice$Ship", name := "fine", desc := "(I)I" } : Jvm.MethodName)) ∈ lw_all := lw_g (lw_at lw_m5 191 rfl) rfl
theorem q1216 : (Jvm.Cond.code ({ cls := "LampLeaseOffice$Ship", name := "fine", desc := "(I)I" } : Jvm.MethodName) prog_8_method_4_code (3 : Nat) (Option.some Jvm.ClassFile.FieldType.int)) ∈ lw_all := lw_g (lw_at lw_m5 192 rfl) rfl
theorem q1217 : (Jvm.Cond.methodLink "LampLeaseOffice$Ship" (25 : Nat) ({ cls := "java/lang/Math", name := "min", desc := "(II)I" } : Jvm.MethodName)) ∈ lw_all := lw_g (lw_at lw_m5 193 rfl) rfl
theorem q1380 : (Jvm.Cond.instanceMethod ({ cls := "LampLeaseOffice$Ship", name := "isAheadOf", desc := "(LLampLeaseOffice$Ship;Z)Z" } : Jvm.MethodName)) ∈ lw_all := lw_g (lw_at lw_m6 116 rfl) rfl
theorem q1381 : (Jvm.Cond.selects "LampLeaseOffice$Ship" ({ cls := "LampLeaseOffice$Ship", name := "isAheadOf", desc := "(LLampLeaseOffice$Ship;Z)Z" } : Jvm.MethodName) ({ cls := "LampLeaseOffice$Ship", name := "isAheadOf", desc := "(LLampLeaseOffice$Ship;Z)Z" } : Jvm.MethodName)) ∈ lw_all := lw_g (lw_at lw_m6 117 rfl) rfl
theorem q1382 : (Jvm.Cond.code ({ cls := "LampLeaseOffice$Ship", name := "isAheadOf", desc := "(LLampLeaseOffice$Ship;Z)Z" } : Jvm.MethodName) prog_8_method_5_code (3 : Nat) (Option.some Jvm.ClassFile.FieldType.boolean)) ∈ lw_all := lw_g (lw_at lw_m6 118 rfl) rfl
theorem q2211 : (Jvm.Cond.castable "LampLeaseOffice$Ship" "java/lang/Object") ∈ lw_tbl := lw_at lw_m9 227 rfl
theorem q81 : (Jvm.Cond.initialized "jdk/internal/util/ArraysSupport") ∈ lw_all := lw_g (lw_at lw_m1 17 rfl) rfl
theorem q452 : (Jvm.Cond.static ({ cls := "jdk/internal/util/ArraysSupport", name := "newLength", desc := "(III)I" } : Jvm.MethodName)) ∈ lw_all := lw_g (lw_at lw_m2 148 rfl) rfl
theorem q453 : (Jvm.Cond.code ({ cls := "jdk/internal/util/ArraysSupport", name := "newLength", desc := "(III)I" } : Jvm.MethodName) prog_54_method_27_code (4 : Nat) (Option.some Jvm.ClassFile.FieldType.int)) ∈ lw_all := lw_g (lw_at lw_m2 149 rfl) rfl
theorem q454 : (Jvm.Cond.methodLink "jdk/internal/util/ArraysSupport" (194 : Nat) ({ cls := "java/lang/Math", name := "max", desc := "(II)I" } : Jvm.MethodName)) ∈ lw_all := lw_g (lw_at lw_m2 150 rfl) rfl
theorem q457 : (Jvm.Cond.constant "jdk/internal/util/ArraysSupport" (200 : Nat) (2147483639 : Int32)) ∈ lw_all := lw_g (lw_at lw_m2 153 rfl) rfl
theorem q458 : (Jvm.Cond.methodLink "jdk/internal/util/ArraysSupport" (201 : Nat) ({ cls := "jdk/internal/util/ArraysSupport", name := "hugeLength", desc := "(II)I" } : Jvm.MethodName)) ∈ lw_all := lw_g (lw_at lw_m2 154 rfl) rfl
theorem q459 : (Jvm.Cond.static ({ cls := "jdk/internal/util/ArraysSupport", name := "hugeLength", desc := "(II)I" } : Jvm.MethodName)) ∈ lw_all := lw_g (lw_at lw_m2 155 rfl) rfl
theorem q460 : (Jvm.Cond.code ({ cls := "jdk/internal/util/ArraysSupport", name := "hugeLength", desc := "(II)I" } : Jvm.MethodName) prog_54_method_28_code (3 : Nat) (Option.some Jvm.ClassFile.FieldType.int)) ∈ lw_all := lw_g (lw_at lw_m2 156 rfl) rfl
theorem q1566 : (Jvm.Cond.static ({ cls := "jdk/internal/util/ArraysSupport", name := "vectorizedHashCode", desc := "(Ljava/lang/Object;IIII)I" } : Jvm.MethodName)) ∈ lw_all := lw_g (lw_at lw_m7 62 rfl) rfl
theorem q1567 : (Jvm.Cond.code ({ cls := "jdk/internal/util/ArraysSupport", name := "vectorizedHashCode", desc := "(Ljava/lang/Object;IIII)I" } : Jvm.MethodName) prog_54_method_4_code (5 : Nat) (Option.some Jvm.ClassFile.FieldType.int)) ∈ lw_all := lw_g (lw_at lw_m7 63 rfl) rfl
theorem q1568 : (Jvm.Cond.classLink "jdk/internal/util/ArraysSupport" (60 : Nat) "[B") ∈ lw_all := lw_g (lw_at lw_m7 64 rfl) rfl
theorem q1569 : (Jvm.Cond.methodLink "jdk/internal/util/ArraysSupport" (62 : Nat) ({ cls := "jdk/internal/util/ArraysSupport", name := "signedHashCode", desc := "(I[BII)I" } : Jvm.MethodName)) ∈ lw_all := lw_g (lw_at lw_m7 65 rfl) rfl
theorem q1570 : (Jvm.Cond.static ({ cls := "jdk/internal/util/ArraysSupport", name := "signedHashCode", desc := "(I[BII)I" } : Jvm.MethodName)) ∈ lw_all := lw_g (lw_at lw_m7 66 rfl) rfl
theorem q1571 : (Jvm.Cond.code ({ cls := "jdk/internal/util/ArraysSupport", name := "signedHashCode", desc := "(I[BII)I" } : Jvm.MethodName) prog_54_method_5_code (6 : Nat) (Option.some Jvm.ClassFile.FieldType.int)) ∈ lw_all := lw_g (lw_at lw_m7 67 rfl) rfl
theorem q1572 : (Jvm.Cond.methodLink "jdk/internal/util/ArraysSupport" (66 : Nat) ({ cls := "jdk/internal/util/ArraysSupport", name := "utf16hashCode", desc := "(I[BII)I" } : Jvm.MethodName)) ∈ lw_all := lw_g (lw_at lw_m7 68 rfl) rfl
theorem q1573 : (Jvm.Cond.static ({ cls := "jdk/internal/util/ArraysSupport", name := "utf16hashCode", desc := "(I[BII)I" } : Jvm.MethodName)) ∈ lw_all := lw_g (lw_at lw_m7 69 rfl) rfl
theorem q1574 : (Jvm.Cond.code ({ cls := "jdk/internal/util/ArraysSupport", name := "utf16hashCode", desc := "(I[BII)I" } : Jvm.MethodName) prog_54_method_10_code (6 : Nat) (Option.some Jvm.ClassFile.FieldType.int)) ∈ lw_all := lw_g (lw_at lw_m7 70 rfl) rfl
theorem q1575 : (Jvm.Cond.fieldLink "jdk/internal/util/ArraysSupport" (106 : Nat) "jdk/internal/util/ArraysSupport" "JLA" "Ljdk/internal/access/JavaLangAccess;") ∈ lw_all := lw_g (lw_at lw_m7 71 rfl) rfl
theorem q1576 : (Jvm.Cond.laysStatic "jdk/internal/util/ArraysSupport" "JLA" "Ljdk/internal/access/JavaLangAccess;") ∈ lw_tbl := lw_at lw_m7 72 rfl
theorem q1577 : (Jvm.Cond.interfaceEntry "jdk/internal/util/ArraysSupport" (110 : Nat)) ∈ lw_tbl := lw_at lw_m7 73 rfl
theorem q1578 : (Jvm.Cond.methodLink "jdk/internal/util/ArraysSupport" (110 : Nat) ({ cls := "jdk/internal/access/JavaLangAccess", name := "getUTF16Char", desc := "([BI)C" } : Jvm.MethodName)) ∈ lw_all := lw_g (lw_at lw_m7 74 rfl) rfl
theorem q1588 : (Jvm.Cond.classLink "jdk/internal/util/ArraysSupport" (69 : Nat) "[C") ∈ lw_all := lw_g (lw_at lw_m7 84 rfl) rfl
theorem q1589 : (Jvm.Cond.methodLink "jdk/internal/util/ArraysSupport" (71 : Nat) ({ cls := "jdk/internal/util/ArraysSupport", name := "hashCode", desc := "(I[CII)I" } : Jvm.MethodName)) ∈ lw_all := lw_g (lw_at lw_m7 85 rfl) rfl
theorem q1590 : (Jvm.Cond.static ({ cls := "jdk/internal/util/ArraysSupport", name := "hashCode", desc := "(I[CII)I" } : Jvm.MethodName)) ∈ lw_all := lw_g (lw_at lw_m7 86 rfl) rfl
theorem q1591 : (Jvm.Cond.code ({ cls := "jdk/internal/util/ArraysSupport", name := "hashCode", desc := "(I[CII)I" } : Jvm.MethodName) prog_54_method_7_code (6 : Nat) (Option.some Jvm.ClassFile.FieldType.int)) ∈ lw_all := lw_g (lw_at lw_m7 87 rfl) rfl
theorem q1592 : (Jvm.Cond.methodLink "jdk/internal/util/ArraysSupport" (75 : Nat) ({ cls := "jdk/internal/util/ArraysSupport", name := "hashCode", desc := "(I[BII)I" } : Jvm.MethodName)) ∈ lw_all := lw_g (lw_at lw_m7 88 rfl) rfl
theorem q1593 : (Jvm.Cond.static ({ cls := "jdk/internal/util/ArraysSupport", name := "hashCode", desc := "(I[BII)I" } : Jvm.MethodName)) ∈ lw_all := lw_g (lw_at lw_m7 89 rfl) rfl
theorem q1594 : (Jvm.Cond.code ({ cls := "jdk/internal/util/ArraysSupport", name := "hashCode", desc := "(I[BII)I" } : Jvm.MethodName) prog_54_method_6_code (6 : Nat) (Option.some Jvm.ClassFile.FieldType.int)) ∈ lw_all := lw_g (lw_at lw_m7 90 rfl) rfl
theorem q1595 : (Jvm.Cond.classLink "jdk/internal/util/ArraysSupport" (77 : Nat) "[S") ∈ lw_all := lw_g (lw_at lw_m7 91 rfl) rfl
theorem q1596 : (Jvm.Cond.methodLink "jdk/internal/util/ArraysSupport" (79 : Nat) ({ cls := "jdk/internal/util/ArraysSupport", name := "hashCode", desc := "(I[SII)I" } : Jvm.MethodName)) ∈ lw_all := lw_g (lw_at lw_m7 92 rfl) rfl
theorem q1597 : (Jvm.Cond.static ({ cls := "jdk/internal/util/ArraysSupport", name := "hashCode", desc := "(I[SII)I" } : Jvm.MethodName)) ∈ lw_all := lw_g (lw_at lw_m7 93 rfl) rfl
theorem q1598 : (Jvm.Cond.code ({ cls := "jdk/internal/util/ArraysSupport", name := "hashCode", desc := "(I[SII)I" } : Jvm.MethodName) prog_54_method_8_code (6 : Nat) (Option.some Jvm.ClassFile.FieldType.int)) ∈ lw_all := lw_g (lw_at lw_m7 94 rfl) rfl
theorem q1599 : (Jvm.Cond.classLink "jdk/internal/util/ArraysSupport" (82 : Nat) "[I") ∈ lw_all := lw_g (lw_at lw_m7 95 rfl) rfl
theorem q1600 : (Jvm.Cond.methodLink "jdk/internal/util/ArraysSupport" (84 : Nat) ({ cls := "jdk/internal/util/ArraysSupport", name := "hashCode", desc := "(I[III)I" } : Jvm.MethodName)) ∈ lw_all := lw_g (lw_at lw_m7 96 rfl) rfl
theorem q1601 : (Jvm.Cond.static ({ cls := "jdk/internal/util/ArraysSupport", name := "hashCode", desc := "(I[III)I" } : Jvm.MethodName)) ∈ lw_all := lw_g (lw_at lw_m7 97 rfl) rfl
theorem q1602 : (Jvm.Cond.code ({ cls := "jdk/internal/util/ArraysSupport", name := "hashCode", desc := "(I[III)I" } : Jvm.MethodName) prog_54_method_9_code (6 : Nat) (Option.some Jvm.ClassFile.FieldType.int)) ∈ lw_all := lw_g (lw_at lw_m7 98 rfl) rfl
theorem q1603 : (Jvm.Cond.classLink "jdk/internal/util/ArraysSupport" (87 : Nat) "java/lang/IllegalArgumentException") ∈ lw_all := lw_g (lw_at lw_m7 99 rfl) rfl
theorem q1604 : (Jvm.Cond.classLink "jdk/internal/util/ArraysSupport" (89 : Nat) "java/lang/StringBuilder") ∈ lw_all := lw_g (lw_at lw_m7 100 rfl) rfl
theorem q1605 : (Jvm.Cond.methodLink "jdk/internal/util/ArraysSupport" (91 : Nat) ({ cls := "java/lang/StringBuilder", name := "<init>", desc := "()V" } : Jvm.MethodName)) ∈ lw_all := lw_g (lw_at lw_m7 101 rfl) rfl
theorem q1606 : (Jvm.Cond.stringRef "jdk/internal/util/ArraysSupport" (92 : Nat) "unrecognized basic type: ") ∈ lw_tbl := lw_at lw_m7 102 rfl
theorem q1607 : (Jvm.Cond.methodLink "jdk/internal/util/ArraysSupport" (94 : Nat) ({ cls := "java/lang/StringBuilder", name := "append", desc := "(Ljava/lang/String;)Ljava/lang/StringBuilder;" } : Jvm.MethodName)) ∈ lw_all := lw_g (lw_at lw_m7 103 rfl) rfl
theorem q1608 : (Jvm.Cond.methodLink "jdk/internal/util/ArraysSupport" (98 : Nat) ({ cls := "java/lang/StringBuilder", name := "append", desc := "(I)Ljava/lang/StringBuilder;" } : Jvm.MethodName)) ∈ lw_all := lw_g (lw_at lw_m7 104 rfl) rfl
theorem q1609 : (Jvm.Cond.methodLink "jdk/internal/util/ArraysSupport" (101 : Nat) ({ cls := "java/lang/StringBuilder", name := "toString", desc := "()Ljava/lang/String;" } : Jvm.MethodName)) ∈ lw_all := lw_g (lw_at lw_m7 105 rfl) rfl
theorem q1610 : (Jvm.Cond.methodLink "jdk/internal/util/ArraysSupport" (105 : Nat) ({ cls := "java/lang/IllegalArgumentException", name := "<init>", desc := "(Ljava/lang/String;)V" } : Jvm.MethodName)) ∈ lw_all := lw_g (lw_at lw_m7 106 rfl) rfl
theorem q82 : (Jvm.Cond.initialized "java/lang/Math") ∈ lw_all := lw_g (lw_at lw_m1 18 rfl) rfl
theorem q455 : (Jvm.Cond.static ({ cls := "java/lang/Math", name := "max", desc := "(II)I" } : Jvm.MethodName)) ∈ lw_all := lw_g (lw_at lw_m2 151 rfl) rfl
theorem q456 : (Jvm.Cond.code ({ cls := "java/lang/Math", name := "max", desc := "(II)I" } : Jvm.MethodName) prog_27_method_65_code (2 : Nat) (Option.some Jvm.ClassFile.FieldType.int)) ∈ lw_all := lw_g (lw_at lw_m2 152 rfl) rfl
theorem q498 : (Jvm.Cond.static ({ cls := "java/lang/Math", name := "min", desc := "(II)I" } : Jvm.MethodName)) ∈ lw_all := lw_g (lw_at lw_m2 194 rfl) rfl
theorem q499 : (Jvm.Cond.code ({ cls := "java/lang/Math", name := "min", desc := "(II)I" } : Jvm.MethodName) prog_27_method_69_code (2 : Nat) (Option.some Jvm.ClassFile.FieldType.int)) ∈ lw_all := lw_g (lw_at lw_m2 195 rfl) rfl
theorem q83 : (Jvm.Cond.initialized "java/util/Arrays") ∈ lw_all := lw_g (lw_at lw_m1 19 rfl) rfl
theorem q462 : (Jvm.Cond.static ({ cls := "java/util/Arrays", name := "copyOf", desc := "([Ljava/lang/Object;I)[Ljava/lang/Object;" } : Jvm.MethodName)) ∈ lw_all := lw_g (lw_at lw_m2 158 rfl) rfl
theorem q463 : (Jvm.Cond.code ({ cls := "java/util/Arrays", name := "copyOf", desc := "([Ljava/lang/Object;I)[Ljava/lang/Object;" } : Jvm.MethodName) prog_45_method_119_code (2 : Nat) (Option.some (Jvm.ClassFile.FieldType.array (Jvm.ClassFile.FieldType.object "java/lang/Object")))) ∈ lw_all := lw_g (lw_at lw_m2 159 rfl) rfl
theorem q464 : (Jvm.Cond.methodLink "java/util/Arrays" (86 : Nat) ({ cls := "java/lang/Object", name := "getClass", desc := "()Ljava/lang/Class;" } : Jvm.MethodName)) ∈ lw_all := lw_g (lw_at lw_m2 160 rfl) rfl
theorem q491 : (Jvm.Cond.methodLink "java/util/Arrays" (300 : Nat) ({ cls := "java/util/Arrays", name := "copyOf", desc := "([Ljava/lang/Object;ILjava/lang/Class;)[Ljava/lang/Object;" } : Jvm.MethodName)) ∈ lw_all := lw_g (lw_at lw_m2 187 rfl) rfl
theorem q492 : (Jvm.Cond.static ({ cls := "java/util/Arrays", name := "copyOf", desc := "([Ljava/lang/Object;ILjava/lang/Class;)[Ljava/lang/Object;" } : Jvm.MethodName)) ∈ lw_all := lw_g (lw_at lw_m2 188 rfl) rfl
theorem q493 : (Jvm.Cond.code ({ cls := "java/util/Arrays", name := "copyOf", desc := "([Ljava/lang/Object;ILjava/lang/Class;)[Ljava/lang/Object;" } : Jvm.MethodName) prog_45_method_120_code (4 : Nat) (Option.some (Jvm.ClassFile.FieldType.array (Jvm.ClassFile.FieldType.object "java/lang/Object")))) ∈ lw_all := lw_g (lw_at lw_m2 189 rfl) rfl
theorem q494 : (Jvm.Cond.classLink "java/util/Arrays" (110 : Nat) "[Ljava/lang/Object;") ∈ lw_all := lw_g (lw_at lw_m2 190 rfl) rfl
theorem q496 : (Jvm.Cond.classLink "java/util/Arrays" (2 : Nat) "java/lang/Object") ∈ lw_all := lw_g (lw_at lw_m2 192 rfl) rfl
theorem q497 : (Jvm.Cond.methodLink "java/util/Arrays" (304 : Nat) ({ cls := "java/lang/Math", name := "min", desc := "(II)I" } : Jvm.MethodName)) ∈ lw_all := lw_g (lw_at lw_m2 193 rfl) rfl
theorem q500 : (Jvm.Cond.methodLink "java/util/Arrays" (150 : Nat) ({ cls := "java/lang/System", name := "arraycopy", desc := "(Ljava/lang/Object;ILjava/lang/Object;II)V" } : Jvm.MethodName)) ∈ lw_all := lw_g (lw_at lw_m2 196 rfl) rfl
theorem q670 : (Jvm.Cond.static ({ cls := "java/util/Arrays", name := "copyOf", desc := "([BI)[B" } : Jvm.MethodName)) ∈ lw_all := lw_g (lw_at lw_m3 126 rfl) rfl
theorem q671 : (Jvm.Cond.code ({ cls := "java/util/Arrays", name := "copyOf", desc := "([BI)[B" } : Jvm.MethodName) prog_45_method_121_code (3 : Nat) (Option.some (Jvm.ClassFile.FieldType.array Jvm.ClassFile.FieldType.byte))) ∈ lw_all := lw_g (lw_at lw_m3 127 rfl) rfl
theorem q672 : (Jvm.Cond.methodLink "java/util/Arrays" (310 : Nat) ({ cls := "[B", name := "clone", desc := "()Ljava/lang/Object;" } : Jvm.MethodName)) ∈ lw_all := lw_g (lw_at lw_m3 128 rfl) rfl
theorem q678 : (Jvm.Cond.classLink "java/util/Arrays" (311 : Nat) "[B") ∈ lw_all := lw_g (lw_at lw_m3 134 rfl) rfl
theorem q806 : (Jvm.Cond.static ({ cls := "java/util/Arrays", name := "copyOfRange", desc := "([BII)[B" } : Jvm.MethodName)) ∈ lw_all := lw_g (lw_at lw_m4 22 rfl) rfl
theorem q807 : (Jvm.Cond.code ({ cls := "java/util/Arrays", name := "copyOfRange", desc := "([BII)[B" } : Jvm.MethodName) prog_45_method_132_code (3 : Nat) (Option.some (Jvm.ClassFile.FieldType.array Jvm.ClassFile.FieldType.byte))) ∈ lw_all := lw_g (lw_at lw_m4 23 rfl) rfl
theorem q808 : (Jvm.Cond.methodLink "java/util/Arrays" (339 : Nat) ({ cls := "java/util/Arrays", name := "copyOfRangeByte", desc := "([BII)[B" } : Jvm.MethodName)) ∈ lw_all := lw_g (lw_at lw_m4 24 rfl) rfl
theorem q809 : (Jvm.Cond.static ({ cls := "java/util/Arrays", name := "copyOfRangeByte", desc := "([BII)[B" } : Jvm.MethodName)) ∈ lw_all := lw_g (lw_at lw_m4 25 rfl) rfl
theorem q810 : (Jvm.Cond.code ({ cls := "java/util/Arrays", name := "copyOfRangeByte", desc := "([BII)[B" } : Jvm.MethodName) prog_45_method_133_code (5 : Nat) (Option.some (Jvm.ClassFile.FieldType.array Jvm.ClassFile.FieldType.byte))) ∈ lw_all := lw_g (lw_at lw_m4 26 rfl) rfl
theorem q811 : (Jvm.Cond.methodLink "java/util/Arrays" (343 : Nat) ({ cls := "java/util/Arrays", name := "checkLength", desc := "(II)V" } : Jvm.MethodName)) ∈ lw_all := lw_g (lw_at lw_m4 27 rfl) rfl
theorem q812 : (Jvm.Cond.static ({ cls := "java/util/Arrays", name := "checkLength", desc := "(II)V" } : Jvm.MethodName)) ∈ lw_all := lw_g (lw_at lw_m4 28 rfl) rfl
theorem q813 : (Jvm.Cond.code ({ cls := "java/util/Arrays", name := "checkLength", desc := "(II)V" } : Jvm.MethodName) prog_45_method_131_code (2 : Nat) (Option.none : Option Jvm.ClassFile.FieldType)) ∈ lw_all := lw_g (lw_at lw_m4 29 rfl) rfl
theorem q814 : (Jvm.Cond.classLink "java/util/Arrays" (43 : Nat) "java/lang/IllegalArgumentException") ∈ lw_all := lw_g (lw_at lw_m4 30 rfl) rfl
theorem q823 : (Jvm.Cond.classLink "java/util/Arrays" (45 : Nat) "java/lang/StringBuilder") ∈ lw_all := lw_g (lw_at lw_m4 39 rfl) rfl
theorem q824 : (Jvm.Cond.methodLink "java/util/Arrays" (47 : Nat) ({ cls := "java/lang/StringBuilder", name := "<init>", desc := "()V" } : Jvm.MethodName)) ∈ lw_all := lw_g (lw_at lw_m4 40 rfl) rfl
theorem q825 : (Jvm.Cond.methodLink "java/util/Arrays" (54 : Nat) ({ cls := "java/lang/StringBuilder", name := "append", desc := "(I)Ljava/lang/StringBuilder;" } : Jvm.MethodName)) ∈ lw_all := lw_g (lw_at lw_m4 41 rfl) rfl
theorem q826 : (Jvm.Cond.stringRef "java/util/Arrays" (337 : Nat) " > ") ∈ lw_tbl := lw_at lw_m4 42 rfl
theorem q827 : (Jvm.Cond.methodLink "java/util/Arrays" (50 : Nat) ({ cls := "java/lang/StringBuilder", name := "append", desc := "(Ljava/lang/String;)Ljava/lang/StringBuilder;" } : Jvm.MethodName)) ∈ lw_all := lw_g (lw_at lw_m4 43 rfl) rfl
theorem q828 : (Jvm.Cond.methodLink "java/util/Arrays" (61 : Nat) ({ cls := "java/lang/StringBuilder", name := "toString", desc := "()Ljava/lang/String;" } : Jvm.MethodName)) ∈ lw_all := lw_g (lw_at lw_m4 44 rfl) rfl
theorem q829 : (Jvm.Cond.methodLink "java/util/Arrays" (65 : Nat) ({ cls := "java/lang/IllegalArgumentException", name := "<init>", desc := "(Ljava/lang/String;)V" } : Jvm.MethodName)) ∈ lw_all := lw_g (lw_at lw_m4 45 rfl) rfl
theorem q884 : (Jvm.Cond.static ({ cls := "java/util/Arrays", name := "fill", desc := "([BIIB)V" } : Jvm.MethodName)) ∈ lw_all := lw_g (lw_at lw_m4 100 rfl) rfl
theorem q885 : (Jvm.Cond.code ({ cls := "java/util/Arrays", name := "fill", desc := "([BIIB)V" } : Jvm.MethodName) prog_45_method_110_code (5 : Nat) (Option.none : Option Jvm.ClassFile.FieldType)) ∈ lw_all := lw_g (lw_at lw_m4 101 rfl) rfl
theorem q886 : (Jvm.Cond.methodLink "java/util/Arrays" (13 : Nat) ({ cls := "java/util/Arrays", name := "rangeCheck", desc := "(III)V" } : Jvm.MethodName)) ∈ lw_all := lw_g (lw_at lw_m4 102 rfl) rfl
theorem q887 : (Jvm.Cond.static ({ cls := "java/util/Arrays", name := "rangeCheck", desc := "(III)V" } : Jvm.MethodName)) ∈ lw_all := lw_g (lw_at lw_m4 103 rfl) rfl
theorem q888 : (Jvm.Cond.code ({ cls := "java/util/Arrays", name := "rangeCheck", desc := "(III)V" } : Jvm.MethodName) prog_45_method_30_code (3 : Nat) (Option.none : Option Jvm.ClassFile.FieldType)) ∈ lw_all := lw_g (lw_at lw_m4 104 rfl) rfl
theorem q889 : (Jvm.Cond.stringRef "java/util/Arrays" (48 : Nat) "fromIndex(") ∈ lw_tbl := lw_at lw_m4 105 rfl
theorem q890 : (Jvm.Cond.stringRef "java/util/Arrays" (57 : Nat) ") > toIndex(") ∈ lw_tbl := lw_at lw_m4 106 rfl
theorem q891 : (Jvm.Cond.stringRef "java/util/Arrays" (59 : Nat) ")") ∈ lw_tbl := lw_at lw_m4 107 rfl
theorem q892 : (Jvm.Cond.classLink "java/util/Arrays" (68 : Nat) "java/lang/ArrayIndexOutOfBoundsException") ∈ lw_all := lw_g (lw_at lw_m4 108 rfl) rfl
theorem q903 : (Jvm.Cond.methodLink "java/util/Arrays" (70 : Nat) ({ cls := "java/lang/ArrayIndexOutOfBoundsException", name := "<init>", desc := "(I)V" } : Jvm.MethodName)) ∈ lw_all := lw_g (lw_at lw_m4 119 rfl) rfl
theorem q85 : (Jvm.Cond.initialized "LampLeaseOffice$Lamp") ∈ lw_all := lw_g (lw_at lw_m1 21 rfl) rfl
theorem q386 : (Jvm.Cond.instanceMethod ({ cls := "LampLeaseOffice$Lamp", name := "isLeased", desc := "()Z" } : Jvm.MethodName)) ∈ lw_all := lw_g (lw_at lw_m2 82 rfl) rfl
theorem q387 : (Jvm.Cond.selects "LampLeaseOffice$Lamp" ({ cls := "LampLeaseOffice$Lamp", name := "isLeased", desc := "()Z" } : Jvm.MethodName) ({ cls := "LampLeaseOffice$Lamp", name := "isLeased", desc := "()Z" } : Jvm.MethodName)) ∈ lw_all := lw_g (lw_at lw_m2 83 rfl) rfl
theorem q388 : (Jvm.Cond.code ({ cls := "LampLeaseOffice$Lamp", name := "isLeased", desc := "()Z" } : Jvm.MethodName) prog_3_method_3_code (1 : Nat) (Option.some Jvm.ClassFile.FieldType.boolean)) ∈ lw_all := lw_g (lw_at lw_m2 84 rfl) rfl
theorem q469 : (Jvm.Cond.selects "LampLeaseOffice$Lamp" ({ cls := "java/lang/Object", name := "getClass", desc := "()Ljava/lang/Class;" } : Jvm.MethodName) ({ cls := "java/lang/Object", name := "getClass", desc := "()Ljava/lang/Class;" } : Jvm.MethodName)) ∈ lw_all := lw_g (lw_at lw_m2 165 rfl) rfl
theorem q506 : (Jvm.Cond.instanceMethod ({ cls := "LampLeaseOffice$Lamp", name := "copy", desc := "()LLampLeaseOffice$Lamp;" } : Jvm.MethodName)) ∈ lw_all := lw_g (lw_at lw_m2 202 rfl) rfl
theorem q507 : (Jvm.Cond.selects "LampLeaseOffice$Lamp" ({ cls := "LampLeaseOffice$Lamp", name := "copy", desc := "()LLampLeaseOffice$Lamp;" } : Jvm.MethodName) ({ cls := "LampLeaseOffice$Lamp", name := "copy", desc := "()LLampLeaseOffice$Lamp;" } : Jvm.MethodName)) ∈ lw_all := lw_g (lw_at lw_m2 203 rfl) rfl
theorem q508 : (Jvm.Cond.code ({ cls := "LampLeaseOffice$Lamp", name := "copy", desc := "()LLampLeaseOffice$Lamp;" } : Jvm.MethodName) prog_3_method_2_code (2 : Nat) (Option.some (Jvm.ClassFile.FieldType.object "LampLeaseOffice$Lamp"))) ∈ lw_all := lw_g (lw_at lw_m2 204 rfl) rfl
theorem q509 : (Jvm.Cond.classLink "LampLeaseOffice$Lamp" (10 : Nat) "LampLeaseOffice$Lamp") ∈ lw_all := lw_g (lw_at lw_m2 205 rfl) rfl
theorem q510 : (Jvm.Cond.instantiable "LampLeaseOffice$Lamp" (5 : Nat)) ∈ lw_all := lw_g (lw_at lw_m2 206 rfl) rfl
theorem q511 : (Jvm.Cond.methodLink "LampLeaseOffice$Lamp" (18 : Nat) ({ cls := "LampLeaseOffice$Lamp", name := "<init>", desc := "(I)V" } : Jvm.MethodName)) ∈ lw_all := lw_g (lw_at lw_m2 207 rfl) rfl
theorem q512 : (Jvm.Cond.instanceMethod ({ cls := "LampLeaseOffice$Lamp", name := "<init>", desc := "(I)V" } : Jvm.MethodName)) ∈ lw_all := lw_g (lw_at lw_m2 208 rfl) rfl
theorem q513 : (Jvm.Cond.code ({ cls := "LampLeaseOffice$Lamp", name := "<init>", desc := "(I)V" } : Jvm.MethodName) prog_3_method_1_code (2 : Nat) (Option.none : Option Jvm.ClassFile.FieldType)) ∈ lw_all := lw_g (lw_at lw_m2 209 rfl) rfl
theorem q514 : (Jvm.Cond.methodLink "LampLeaseOffice$Lamp" (3 : Nat) ({ cls := "java/lang/Object", name := "<init>", desc := "()V" } : Jvm.MethodName)) ∈ lw_all := lw_g (lw_at lw_m2 210 rfl) rfl
theorem q515 : (Jvm.Cond.fieldLink "LampLeaseOffice$Lamp" (15 : Nat) "LampLeaseOffice$Lamp" "level" "I") ∈ lw_all := lw_g (lw_at lw_m2 211 rfl) rfl
theorem q518 : (Jvm.Cond.fieldLink "LampLeaseOffice$Lamp" (9 : Nat) "LampLeaseOffice$Lamp" "lessee" "I") ∈ lw_all := lw_g (lw_at lw_m2 214 rfl) rfl
theorem q521 : (Jvm.Cond.fieldLink "LampLeaseOffice$Lamp" (21 : Nat) "LampLeaseOffice$Lamp" "end" "I") ∈ lw_all := lw_g (lw_at lw_m2 217 rfl) rfl
theorem q524 : (Jvm.Cond.fieldLink "LampLeaseOffice$Lamp" (24 : Nat) "LampLeaseOffice$Lamp" "brightHours" "I") ∈ lw_all := lw_g (lw_at lw_m2 220 rfl) rfl
theorem q526 : (Jvm.Cond.fieldLink "LampLeaseOffice$Lamp" (27 : Nat) "LampLeaseOffice$Lamp" "isBright" "Z") ∈ lw_all := lw_g (lw_at lw_m2 222 rfl) rfl
theorem q529 : (Jvm.Cond.laysFinal "LampLeaseOffice$Lamp" "LampLeaseOffice$Lamp" "level" "I") ∈ lw_all := lw_g (lw_at lw_m2 225 rfl) rfl
theorem q530 : (Jvm.Cond.soleField "LampLeaseOffice$Lamp" "level") ∈ lw_all := lw_g (lw_at lw_m2 226 rfl) rfl
theorem q531 : (Jvm.Cond.lays "LampLeaseOffice$Lamp" "LampLeaseOffice$Lamp" "lessee" "I") ∈ lw_all := lw_g (lw_at lw_m2 227 rfl) rfl
theorem q532 : (Jvm.Cond.soleField "LampLeaseOffice$Lamp" "lessee") ∈ lw_all := lw_g (lw_at lw_m2 228 rfl) rfl
theorem q533 : (Jvm.Cond.lays "LampLeaseOffice$Lamp" "LampLeaseOffice$Lamp" "end" "I") ∈ lw_all := lw_g (lw_at lw_m2 229 rfl) rfl
theorem q534 : (Jvm.Cond.soleField "LampLeaseOffice$Lamp" "end") ∈ lw_all := lw_g (lw_at lw_m2 230 rfl) rfl
theorem q535 : (Jvm.Cond.lays "LampLeaseOffice$Lamp" "LampLeaseOffice$Lamp" "brightHours" "I") ∈ lw_all := lw_g (lw_at lw_m2 231 rfl) rfl
theorem q536 : (Jvm.Cond.soleField "LampLeaseOffice$Lamp" "brightHours") ∈ lw_all := lw_g (lw_at lw_m2 232 rfl) rfl
theorem q537 : (Jvm.Cond.lays "LampLeaseOffice$Lamp" "LampLeaseOffice$Lamp" "isBright" "Z") ∈ lw_all := lw_g (lw_at lw_m2 233 rfl) rfl
theorem q538 : (Jvm.Cond.soleField "LampLeaseOffice$Lamp" "isBright") ∈ lw_all := lw_g (lw_at lw_m2 234 rfl) rfl
theorem q539 : (Jvm.Cond.superclass "LampLeaseOffice$Lamp" "java/lang/Object") ∈ lw_all := lw_g (lw_at lw_m2 235 rfl) rfl
theorem q546 : (Jvm.Cond.instanceMethod ({ cls := "LampLeaseOffice$Lamp", name := "burn", desc := "(I)I" } : Jvm.MethodName)) ∈ lw_all := lw_g (lw_at lw_m3 2 rfl) rfl
theorem q547 : (Jvm.Cond.selects "LampLeaseOffice$Lamp" ({ cls := "LampLeaseOffice$Lamp", name := "burn", desc := "(I)I" } : Jvm.MethodName) ({ cls := "LampLeaseOffice$Lamp", name := "burn", desc := "(I)I" } : Jvm.MethodName)) ∈ lw_all := lw_g (lw_at lw_m3 3 rfl) rfl
theorem q548 : (Jvm.Cond.code ({ cls := "LampLeaseOffice$Lamp", name := "burn", desc := "(I)I" } : Jvm.MethodName) prog_3_method_6_code (2 : Nat) (Option.some Jvm.ClassFile.FieldType.int)) ∈ lw_all := lw_g (lw_at lw_m3 4 rfl) rfl
theorem q549 : (Jvm.Cond.methodLink "LampLeaseOffice$Lamp" (31 : Nat) ({ cls := "LampLeaseOffice$Lamp", name := "isLeased", desc := "()Z" } : Jvm.MethodName)) ∈ lw_all := lw_g (lw_at lw_m3 5 rfl) rfl
theorem q598 : (Jvm.Cond.instanceMethod ({ cls := "LampLeaseOffice$Lamp", name := "isLeasedTo", desc := "(I)Z" } : Jvm.MethodName)) ∈ lw_all := lw_g (lw_at lw_m3 54 rfl) rfl
theorem q599 : (Jvm.Cond.selects "LampLeaseOffice$Lamp" ({ cls := "LampLeaseOffice$Lamp", name := "isLeasedTo", desc := "(I)Z" } : Jvm.MethodName) ({ cls := "LampLeaseOffice$Lamp", name := "isLeasedTo", desc := "(I)Z" } : Jvm.MethodName)) ∈ lw_all := lw_g (lw_at lw_m3 55 rfl) rfl
theorem q600 : (Jvm.Cond.code ({ cls := "LampLeaseOffice$Lamp", name := "isLeasedTo", desc := "(I)Z" } : Jvm.MethodName) prog_3_method_4_code (2 : Nat) (Option.some Jvm.ClassFile.FieldType.boolean)) ∈ lw_all := lw_g (lw_at lw_m3 56 rfl) rfl
theorem q1081 : (Jvm.Cond.instanceMethod ({ cls := "LampLeaseOffice$Lamp", name := "cost", desc := "(I)I" } : Jvm.MethodName)) ∈ lw_all := lw_g (lw_at lw_m5 57 rfl) rfl
theorem q1082 : (Jvm.Cond.selects "LampLeaseOffice$Lamp" ({ cls := "LampLeaseOffice$Lamp", name := "cost", desc := "(I)I" } : Jvm.MethodName) ({ cls := "LampLeaseOffice$Lamp", name := "cost", desc := "(I)I" } : Jvm.MethodName)) ∈ lw_all := lw_g (lw_at lw_m5 58 rfl) rfl
theorem q1083 : (Jvm.Cond.code ({ cls := "LampLeaseOffice$Lamp", name := "cost", desc := "(I)I" } : Jvm.MethodName) prog_3_method_5_code (2 : Nat) (Option.some Jvm.ClassFile.FieldType.int)) ∈ lw_all := lw_g (lw_at lw_m5 59 rfl) rfl
theorem q1391 : (Jvm.Cond.instanceMethod ({ cls := "LampLeaseOffice$Lamp", name := "endsSooner", desc := "(LLampLeaseOffice$Lamp;Z)Z" } : Jvm.MethodName)) ∈ lw_all := lw_g (lw_at lw_m6 127 rfl) rfl
theorem q1392 : (Jvm.Cond.selects "LampLeaseOffice$Lamp" ({ cls := "LampLeaseOffice$Lamp", name := "endsSooner", desc := "(LLampLeaseOffice$Lamp;Z)Z" } : Jvm.MethodName) ({ cls := "LampLeaseOffice$Lamp", name := "endsSooner", desc := "(LLampLeaseOffice$Lamp;Z)Z" } : Jvm.MethodName)) ∈ lw_all := lw_g (lw_at lw_m6 128 rfl) rfl
theorem q1393 : (Jvm.Cond.code ({ cls := "LampLeaseOffice$Lamp", name := "endsSooner", desc := "(LLampLeaseOffice$Lamp;Z)Z" } : Jvm.MethodName) prog_3_method_7_code (3 : Nat) (Option.some Jvm.ClassFile.FieldType.boolean)) ∈ lw_all := lw_g (lw_at lw_m6 129 rfl) rfl
theorem q2212 : (Jvm.Cond.castable "LampLeaseOffice$Lamp" "java/lang/Object") ∈ lw_tbl := lw_at lw_m9 228 rfl
theorem q86 : (Jvm.Cond.initialized "java/lang/IllegalStateException") ∈ lw_all := lw_g (lw_at lw_m1 22 rfl) rfl
theorem q351 : (Jvm.Cond.selects "java/lang/IllegalStateException" ({ cls := "java/lang/Throwable", name := "fillInStackTrace", desc := "()Ljava/lang/Throwable;" } : Jvm.MethodName) ({ cls := "java/lang/Throwable", name := "fillInStackTrace", desc := "()Ljava/lang/Throwable;" } : Jvm.MethodName)) ∈ lw_all := lw_g (lw_at lw_m2 47 rfl) rfl
theorem q480 : (Jvm.Cond.selects "java/lang/IllegalStateException" ({ cls := "java/lang/Object", name := "getClass", desc := "()Ljava/lang/Class;" } : Jvm.MethodName) ({ cls := "java/lang/Object", name := "getClass", desc := "()Ljava/lang/Class;" } : Jvm.MethodName)) ∈ lw_all := lw_g (lw_at lw_m2 176 rfl) rfl
theorem q973 : (Jvm.Cond.instantiable "java/lang/IllegalStateException" (6 : Nat)) ∈ lw_all := lw_g (lw_at lw_m4 189 rfl) rfl
theorem q974 : (Jvm.Cond.castable "java/lang/IllegalStateException" "java/lang/IllegalStateException") ∈ lw_tbl := lw_at lw_m4 190 rfl
theorem q975 : (Jvm.Cond.selects "java/lang/IllegalStateException" ({ cls := "java/lang/Throwable", name := "fillInStackTrace", desc := "(I)Ljava/lang/Throwable;" } : Jvm.MethodName) ({ cls := "java/lang/Throwable", name := "fillInStackTrace", desc := "(I)Ljava/lang/Throwable;" } : Jvm.MethodName)) ∈ lw_all := lw_g (lw_at lw_m4 191 rfl) rfl
theorem q976 : (Jvm.Cond.lays "java/lang/IllegalStateException" "java/lang/Throwable" "cause" "Ljava/lang/Throwable;") ∈ lw_all := lw_g (lw_at lw_m4 192 rfl) rfl
theorem q977 : (Jvm.Cond.lays "java/lang/IllegalStateException" "java/lang/Throwable" "stackTrace" "[Ljava/lang/StackTraceElement;") ∈ lw_all := lw_g (lw_at lw_m4 193 rfl) rfl
theorem q978 : (Jvm.Cond.lays "java/lang/IllegalStateException" "java/lang/Throwable" "suppressedExceptions" "Ljava/util/List;") ∈ lw_all := lw_g (lw_at lw_m4 194 rfl) rfl
theorem q979 : (Jvm.Cond.lays "java/lang/IllegalStateException" "java/lang/Throwable" "detailMessage" "Ljava/lang/String;") ∈ lw_all := lw_g (lw_at lw_m4 195 rfl) rfl
theorem q980 : (Jvm.Cond.lays "java/lang/IllegalStateException" "java/lang/Throwable" "backtrace" "Ljava/lang/Object;") ∈ lw_all := lw_g (lw_at lw_m4 196 rfl) rfl
theorem q982 : (Jvm.Cond.instanceMethod ({ cls := "java/lang/IllegalStateException", name := "<init>", desc := "()V" } : Jvm.MethodName)) ∈ lw_all := lw_g (lw_at lw_m4 198 rfl) rfl
theorem q983 : (Jvm.Cond.code ({ cls := "java/lang/IllegalStateException", name := "<init>", desc := "()V" } : Jvm.MethodName) prog_23_method_1_code (1 : Nat) (Option.none : Option Jvm.ClassFile.FieldType)) ∈ lw_all := lw_g (lw_at lw_m4 199 rfl) rfl
theorem q984 : (Jvm.Cond.methodLink "java/lang/IllegalStateException" (1 : Nat) ({ cls := "java/lang/RuntimeException", name := "<init>", desc := "()V" } : Jvm.MethodName)) ∈ lw_all := lw_g (lw_at lw_m4 200 rfl) rfl
theorem q985 : (Jvm.Cond.lays "java/lang/IllegalStateException" "java/lang/Throwable" "depth" "I") ∈ lw_all := lw_g (lw_at lw_m4 201 rfl) rfl
theorem q986 : (Jvm.Cond.superclass "java/lang/IllegalStateException" "java/lang/RuntimeException") ∈ lw_all := lw_g (lw_at lw_m4 202 rfl) rfl
theorem q2213 : (Jvm.Cond.castable "java/lang/IllegalStateException" "java/lang/Object") ∈ lw_tbl := lw_at lw_m9 229 rfl
theorem q87 : (Jvm.Cond.initialized "java/util/Objects") ∈ lw_all := lw_g (lw_at lw_m1 23 rfl) rfl
theorem q607 : (Jvm.Cond.static ({ cls := "java/util/Objects", name := "checkIndex", desc := "(II)I" } : Jvm.MethodName)) ∈ lw_all := lw_g (lw_at lw_m3 63 rfl) rfl
theorem q608 : (Jvm.Cond.code ({ cls := "java/util/Objects", name := "checkIndex", desc := "(II)I" } : Jvm.MethodName) prog_50_method_17_code (2 : Nat) (Option.some Jvm.ClassFile.FieldType.int)) ∈ lw_all := lw_g (lw_at lw_m3 64 rfl) rfl
theorem q609 : (Jvm.Cond.methodLink "java/util/Objects" (105 : Nat) ({ cls := "jdk/internal/util/Preconditions", name := "checkIndex", desc := "(IILjava/util/function/BiFunction;)I" } : Jvm.MethodName)) ∈ lw_all := lw_g (lw_at lw_m3 65 rfl) rfl
theorem q88 : (Jvm.Cond.initialized "jdk/internal/util/Preconditions") ∈ lw_all := lw_g (lw_at lw_m1 24 rfl) rfl
theorem q610 : (Jvm.Cond.static ({ cls := "jdk/internal/util/Preconditions", name := "checkIndex", desc := "(IILjava/util/function/BiFunction;)I" } : Jvm.MethodName)) ∈ lw_all := lw_g (lw_at lw_m3 66 rfl) rfl
theorem q611 : (Jvm.Cond.code ({ cls := "jdk/internal/util/Preconditions", name := "checkIndex", desc := "(IILjava/util/function/BiFunction;)I" } : Jvm.MethodName) prog_55_method_11_code (3 : Nat) (Option.some Jvm.ClassFile.FieldType.int)) ∈ lw_all := lw_g (lw_at lw_m3 67 rfl) rfl
theorem q697 : (Jvm.Cond.laysStatic "jdk/internal/util/Preconditions" "SIOOBE_FORMATTER" "Ljava/util/function/BiFunction;") ∈ lw_tbl := lw_at lw_m3 153 rfl
theorem q699 : (Jvm.Cond.static ({ cls := "jdk/internal/util/Preconditions", name := "checkFromToIndex", desc := "(IIILjava/util/function/BiFunction;)I" } : Jvm.MethodName)) ∈ lw_all := lw_g (lw_at lw_m3 155 rfl) rfl
theorem q700 : (Jvm.Cond.code ({ cls := "jdk/internal/util/Preconditions", name := "checkFromToIndex", desc := "(IIILjava/util/function/BiFunction;)I" } : Jvm.MethodName) prog_55_method_12_code (4 : Nat) (Option.some Jvm.ClassFile.FieldType.int)) ∈ lw_all := lw_g (lw_at lw_m3 156 rfl) rfl
theorem q745 : (Jvm.Cond.static ({ cls := "jdk/internal/util/Preconditions", name := "checkFromIndexSize", desc := "(IIILjava/util/function/BiFunction;)I" } : Jvm.MethodName)) ∈ lw_all := lw_g (lw_at lw_m3 201 rfl) rfl
theorem q746 : (Jvm.Cond.code ({ cls := "jdk/internal/util/Preconditions", name := "checkFromIndexSize", desc := "(IIILjava/util/function/BiFunction;)I" } : Jvm.MethodName) prog_55_method_13_code (4 : Nat) (Option.some Jvm.ClassFile.FieldType.int)) ∈ lw_all := lw_g (lw_at lw_m3 202 rfl) rfl
theorem q89 : (Jvm.Cond.initialized "java/lang/IllegalArgumentException") ∈ lw_all := lw_g (lw_at lw_m1 25 rfl) rfl
theorem q350 : (Jvm.Cond.selects "java/lang/IllegalArgumentException" ({ cls := "java/lang/Throwable", name := "fillInStackTrace", desc := "()Ljava/lang/Throwable;" } : Jvm.MethodName) ({ cls := "java/lang/Throwable", name := "fillInStackTrace", desc := "()Ljava/lang/Throwable;" } : Jvm.MethodName)) ∈ lw_all := lw_g (lw_at lw_m2 46 rfl) rfl
theorem q479 : (Jvm.Cond.selects "java/lang/IllegalArgumentException" ({ cls := "java/lang/Object", name := "getClass", desc := "()Ljava/lang/Class;" } : Jvm.MethodName) ({ cls := "java/lang/Object", name := "getClass", desc := "()Ljava/lang/Class;" } : Jvm.MethodName)) ∈ lw_all := lw_g (lw_at lw_m2 175 rfl) rfl
theorem q815 : (Jvm.Cond.instantiable "java/lang/IllegalArgumentException" (6 : Nat)) ∈ lw_all := lw_g (lw_at lw_m4 31 rfl) rfl
theorem q816 : (Jvm.Cond.castable "java/lang/IllegalArgumentException" "java/lang/IllegalArgumentException") ∈ lw_tbl := lw_at lw_m4 32 rfl
theorem q817 : (Jvm.Cond.selects "java/lang/IllegalArgumentException" ({ cls := "java/lang/Throwable", name := "fillInStackTrace", desc := "(I)Ljava/lang/Throwable;" } : Jvm.MethodName) ({ cls := "java/lang/Throwable", name := "fillInStackTrace", desc := "(I)Ljava/lang/Throwable;" } : Jvm.MethodName)) ∈ lw_all := lw_g (lw_at lw_m4 33 rfl) rfl
theorem q818 : (Jvm.Cond.lays "java/lang/IllegalArgumentException" "java/lang/Throwable" "cause" "Ljava/lang/Throwable;") ∈ lw_all := lw_g (lw_at lw_m4 34 rfl) rfl
theorem q819 : (Jvm.Cond.lays "java/lang/IllegalArgumentException" "java/lang/Throwable" "stackTrace" "[Ljava/lang/StackTraceElement;") ∈ lw_all := lw_g (lw_at lw_m4 35 rfl) rfl
theorem q820 : (Jvm.Cond.lays "java/lang/IllegalArgumentException" "java/lang/Throwable" "suppressedExceptions" "Ljava/util/List;") ∈ lw_all := lw_g (lw_at lw_m4 36 rfl) rfl
theorem q821 : (Jvm.Cond.lays "java/lang/IllegalArgumentException" "java/lang/Throwable" "detailMessage" "Ljava/lang/String;") ∈ lw_all := lw_g (lw_at lw_m4 37 rfl) rfl
theorem q822 : (Jvm.Cond.lays "java/lang/IllegalArgumentException" "java/lang/Throwable" "backtrace" "Ljava/lang/Object;") ∈ lw_all := lw_g (lw_at lw_m4 38 rfl) rfl
theorem q830 : (Jvm.Cond.instanceMethod ({ cls := "java/lang/IllegalArgumentException", name := "<init>", desc := "(Ljava/lang/String;)V" } : Jvm.MethodName)) ∈ lw_all := lw_g (lw_at lw_m4 46 rfl) rfl
theorem q831 : (Jvm.Cond.code ({ cls := "java/lang/IllegalArgumentException", name := "<init>", desc := "(Ljava/lang/String;)V" } : Jvm.MethodName) prog_22_method_2_code (2 : Nat) (Option.none : Option Jvm.ClassFile.FieldType)) ∈ lw_all := lw_g (lw_at lw_m4 47 rfl) rfl
theorem q832 : (Jvm.Cond.methodLink "java/lang/IllegalArgumentException" (7 : Nat) ({ cls := "java/lang/RuntimeException", name := "<init>", desc := "(Ljava/lang/String;)V" } : Jvm.MethodName)) ∈ lw_all := lw_g (lw_at lw_m4 48 rfl) rfl
theorem q841 : (Jvm.Cond.lays "java/lang/IllegalArgumentException" "java/lang/Throwable" "depth" "I") ∈ lw_all := lw_g (lw_at lw_m4 57 rfl) rfl
theorem q842 : (Jvm.Cond.superclass "java/lang/IllegalArgumentException" "java/lang/RuntimeException") ∈ lw_all := lw_g (lw_at lw_m4 58 rfl) rfl
theorem q1022 : (Jvm.Cond.instanceMethod ({ cls := "java/lang/IllegalArgumentException", name := "<init>", desc := "()V" } : Jvm.MethodName)) ∈ lw_all := lw_g (lw_at lw_m4 238 rfl) rfl
theorem q1023 : (Jvm.Cond.code ({ cls := "java/lang/IllegalArgumentException", name := "<init>", desc := "()V" } : Jvm.MethodName) prog_22_method_1_code (1 : Nat) (Option.none : Option Jvm.ClassFile.FieldType)) ∈ lw_all := lw_g (lw_at lw_m4 239 rfl) rfl
theorem q1024 : (Jvm.Cond.methodLink "java/lang/IllegalArgumentException" (1 : Nat) ({ cls := "java/lang/RuntimeException", name := "<init>", desc := "()V" } : Jvm.MethodName)) ∈ lw_all := lw_g (lw_at lw_m5 0 rfl) rfl
theorem q2214 : (Jvm.Cond.castable "java/lang/IllegalArgumentException" "java/lang/Object") ∈ lw_tbl := lw_at lw_m9 230 rfl
theorem q90 : (Jvm.Cond.initialized "java/lang/IndexOutOfBoundsException") ∈ lw_all := lw_g (lw_at lw_m1 26 rfl) rfl
theorem q352 : (Jvm.Cond.selects "java/lang/IndexOutOfBoundsException" ({ cls := "java/lang/Throwable", name := "fillInStackTrace", desc := "()Ljava/lang/Throwable;" } : Jvm.MethodName) ({ cls := "java/lang/Throwable", name := "fillInStackTrace", desc := "()Ljava/lang/Throwable;" } : Jvm.MethodName)) ∈ lw_all := lw_g (lw_at lw_m2 48 rfl) rfl
theorem q481 : (Jvm.Cond.selects "java/lang/IndexOutOfBoundsException" ({ cls := "java/lang/Object", name := "getClass", desc := "()Ljava/lang/Class;" } : Jvm.MethodName) ({ cls := "java/lang/Object", name := "getClass", desc := "()Ljava/lang/Class;" } : Jvm.MethodName)) ∈ lw_all := lw_g (lw_at lw_m2 177 rfl) rfl
theorem q870 : (Jvm.Cond.instanceMethod ({ cls := "java/lang/IndexOutOfBoundsException", name := "<init>", desc := "(Ljava/lang/String;)V" } : Jvm.MethodName)) ∈ lw_all := lw_g (lw_at lw_m4 86 rfl) rfl
theorem q871 : (Jvm.Cond.code ({ cls := "java/lang/IndexOutOfBoundsException", name := "<init>", desc := "(Ljava/lang/String;)V" } : Jvm.MethodName) prog_24_method_2_code (2 : Nat) (Option.none : Option Jvm.ClassFile.FieldType)) ∈ lw_all := lw_g (lw_at lw_m4 87 rfl) rfl
theorem q872 : (Jvm.Cond.methodLink "java/lang/IndexOutOfBoundsException" (7 : Nat) ({ cls := "java/lang/RuntimeException", name := "<init>", desc := "(Ljava/lang/String;)V" } : Jvm.MethodName)) ∈ lw_all := lw_g (lw_at lw_m4 88 rfl) rfl
theorem q895 : (Jvm.Cond.declares ({ cls := "java/lang/IndexOutOfBoundsException", name := "<init>", desc := "()V" } : Jvm.MethodName)) ∈ lw_tbl := lw_at lw_m4 111 rfl
theorem q896 : (Jvm.Cond.declares ({ cls := "java/lang/IndexOutOfBoundsException", name := "<init>", desc := "(Ljava/lang/String;)V" } : Jvm.MethodName)) ∈ lw_tbl := lw_at lw_m4 112 rfl
theorem q1061 : (Jvm.Cond.instantiable "java/lang/IndexOutOfBoundsException" (6 : Nat)) ∈ lw_all := lw_g (lw_at lw_m5 37 rfl) rfl
theorem q1062 : (Jvm.Cond.castable "java/lang/IndexOutOfBoundsException" "java/lang/IndexOutOfBoundsException") ∈ lw_tbl := lw_at lw_m5 38 rfl
theorem q1063 : (Jvm.Cond.selects "java/lang/IndexOutOfBoundsException" ({ cls := "java/lang/Throwable", name := "fillInStackTrace", desc := "(I)Ljava/lang/Throwable;" } : Jvm.MethodName) ({ cls := "java/lang/Throwable", name := "fillInStackTrace", desc := "(I)Ljava/lang/Throwable;" } : Jvm.MethodName)) ∈ lw_all := lw_g (lw_at lw_m5 39 rfl) rfl
theorem q1064 : (Jvm.Cond.lays "java/lang/IndexOutOfBoundsException" "java/lang/Throwable" "cause" "Ljava/lang/Throwable;") ∈ lw_all := lw_g (lw_at lw_m5 40 rfl) rfl
theorem q1065 : (Jvm.Cond.lays "java/lang/IndexOutOfBoundsException" "java/lang/Throwable" "stackTrace" "[Ljava/lang/StackTraceElement;") ∈ lw_all := lw_g (lw_at lw_m5 41 rfl) rfl
theorem q1066 : (Jvm.Cond.lays "java/lang/IndexOutOfBoundsException" "java/lang/Throwable" "suppressedExceptions" "Ljava/util/List;") ∈ lw_all := lw_g (lw_at lw_m5 42 rfl) rfl
theorem q1067 : (Jvm.Cond.lays "java/lang/IndexOutOfBoundsException" "java/lang/Throwable" "detailMessage" "Ljava/lang/String;") ∈ lw_all := lw_g (lw_at lw_m5 43 rfl) rfl
theorem q1068 : (Jvm.Cond.lays "java/lang/IndexOutOfBoundsException" "java/lang/Throwable" "backtrace" "Ljava/lang/Object;") ∈ lw_all := lw_g (lw_at lw_m5 44 rfl) rfl
theorem q1070 : (Jvm.Cond.instanceMethod ({ cls := "java/lang/IndexOutOfBoundsException", name := "<init>", desc := "()V" } : Jvm.MethodName)) ∈ lw_all := lw_g (lw_at lw_m5 46 rfl) rfl
theorem q1071 : (Jvm.Cond.code ({ cls := "java/lang/IndexOutOfBoundsException", name := "<init>", desc := "()V" } : Jvm.MethodName) prog_24_method_1_code (1 : Nat) (Option.none : Option Jvm.ClassFile.FieldType)) ∈ lw_all := lw_g (lw_at lw_m5 47 rfl) rfl
theorem q1072 : (Jvm.Cond.methodLink "java/lang/IndexOutOfBoundsException" (1 : Nat) ({ cls := "java/lang/RuntimeException", name := "<init>", desc := "()V" } : Jvm.MethodName)) ∈ lw_all := lw_g (lw_at lw_m5 48 rfl) rfl
theorem q1073 : (Jvm.Cond.lays "java/lang/IndexOutOfBoundsException" "java/lang/Throwable" "depth" "I") ∈ lw_all := lw_g (lw_at lw_m5 49 rfl) rfl
theorem q1074 : (Jvm.Cond.superclass "java/lang/IndexOutOfBoundsException" "java/lang/RuntimeException") ∈ lw_all := lw_g (lw_at lw_m5 50 rfl) rfl
theorem q2216 : (Jvm.Cond.castable "java/lang/IndexOutOfBoundsException" "java/lang/Object") ∈ lw_tbl := lw_at lw_m9 232 rfl
theorem q91 : (Jvm.Cond.initialized "java/lang/ArrayIndexOutOfBoundsException") ∈ lw_all := lw_g (lw_at lw_m1 27 rfl) rfl
theorem q349 : (Jvm.Cond.selects "java/lang/ArrayIndexOutOfBoundsException" ({ cls := "java/lang/Throwable", name := "fillInStackTrace", desc := "()Ljava/lang/Throwable;" } : Jvm.MethodName) ({ cls := "java/lang/Throwable", name := "fillInStackTrace", desc := "()Ljava/lang/Throwable;" } : Jvm.MethodName)) ∈ lw_all := lw_g (lw_at lw_m2 45 rfl) rfl
theorem q478 : (Jvm.Cond.selects "java/lang/ArrayIndexOutOfBoundsException" ({ cls := "java/lang/Object", name := "getClass", desc := "()Ljava/lang/Class;" } : Jvm.MethodName) ({ cls := "java/lang/Object", name := "getClass", desc := "()Ljava/lang/Class;" } : Jvm.MethodName)) ∈ lw_all := lw_g (lw_at lw_m2 174 rfl) rfl
theorem q893 : (Jvm.Cond.instantiable "java/lang/ArrayIndexOutOfBoundsException" (6 : Nat)) ∈ lw_all := lw_g (lw_at lw_m4 109 rfl) rfl
theorem q894 : (Jvm.Cond.castable "java/lang/ArrayIndexOutOfBoundsException" "java/lang/ArrayIndexOutOfBoundsException") ∈ lw_tbl := lw_at lw_m4 110 rfl
theorem q897 : (Jvm.Cond.selects "java/lang/ArrayIndexOutOfBoundsException" ({ cls := "java/lang/Throwable", name := "fillInStackTrace", desc := "(I)Ljava/lang/Throwable;" } : Jvm.MethodName) ({ cls := "java/lang/Throwable", name := "fillInStackTrace", desc := "(I)Ljava/lang/Throwable;" } : Jvm.MethodName)) ∈ lw_all := lw_g (lw_at lw_m4 113 rfl) rfl
theorem q898 : (Jvm.Cond.lays "java/lang/ArrayIndexOutOfBoundsException" "java/lang/Throwable" "cause" "Ljava/lang/Throwable;") ∈ lw_all := lw_g (lw_at lw_m4 114 rfl) rfl
theorem q899 : (Jvm.Cond.lays "java/lang/ArrayIndexOutOfBoundsException" "java/lang/Throwable" "stackTrace" "[Ljava/lang/StackTraceElement;") ∈ lw_all := lw_g (lw_at lw_m4 115 rfl) rfl
theorem q900 : (Jvm.Cond.lays "java/lang/ArrayIndexOutOfBoundsException" "java/lang/Throwable" "suppressedExceptions" "Ljava/util/List;") ∈ lw_all := lw_g (lw_at lw_m4 116 rfl) rfl
theorem q901 : (Jvm.Cond.lays "java/lang/ArrayIndexOutOfBoundsException" "java/lang/Throwable" "detailMessage" "Ljava/lang/String;") ∈ lw_all := lw_g (lw_at lw_m4 117 rfl) rfl
theorem q902 : (Jvm.Cond.lays "java/lang/ArrayIndexOutOfBoundsException" "java/lang/Throwable" "backtrace" "Ljava/lang/Object;") ∈ lw_all := lw_g (lw_at lw_m4 118 rfl) rfl
theorem q904 : (Jvm.Cond.instanceMethod ({ cls := "java/lang/ArrayIndexOutOfBoundsException", name := "<init>", desc := "(I)V" } : Jvm.MethodName)) ∈ lw_all := lw_g (lw_at lw_m4 120 rfl) rfl
theorem q905 : (Jvm.Cond.code ({ cls := "java/lang/ArrayIndexOutOfBoundsException", name := "<init>", desc := "(I)V" } : Jvm.MethodName) prog_17_method_3_code (2 : Nat) (Option.none : Option Jvm.ClassFile.FieldType)) ∈ lw_all := lw_g (lw_at lw_m4 121 rfl) rfl
theorem q906 : (Jvm.Cond.classLink "java/lang/ArrayIndexOutOfBoundsException" (10 : Nat) "java/lang/StringBuilder") ∈ lw_all := lw_g (lw_at lw_m4 122 rfl) rfl
theorem q907 : (Jvm.Cond.methodLink "java/lang/ArrayIndexOutOfBoundsException" (12 : Nat) ({ cls := "java/lang/StringBuilder", name := "<init>", desc := "()V" } : Jvm.MethodName)) ∈ lw_all := lw_g (lw_at lw_m4 123 rfl) rfl
theorem q908 : (Jvm.Cond.stringRef "java/lang/ArrayIndexOutOfBoundsException" (13 : Nat) "Array index out of range: ") ∈ lw_tbl := lw_at lw_m4 124 rfl
theorem q909 : (Jvm.Cond.methodLink "java/lang/ArrayIndexOutOfBoundsException" (15 : Nat) ({ cls := "java/lang/StringBuilder", name := "append", desc := "(Ljava/lang/String;)Ljava/lang/StringBuilder;" } : Jvm.MethodName)) ∈ lw_all := lw_g (lw_at lw_m4 125 rfl) rfl
theorem q910 : (Jvm.Cond.methodLink "java/lang/ArrayIndexOutOfBoundsException" (19 : Nat) ({ cls := "java/lang/StringBuilder", name := "append", desc := "(I)Ljava/lang/StringBuilder;" } : Jvm.MethodName)) ∈ lw_all := lw_g (lw_at lw_m4 126 rfl) rfl
theorem q911 : (Jvm.Cond.methodLink "java/lang/ArrayIndexOutOfBoundsException" (22 : Nat) ({ cls := "java/lang/StringBuilder", name := "toString", desc := "()Ljava/lang/String;" } : Jvm.MethodName)) ∈ lw_all := lw_g (lw_at lw_m4 127 rfl) rfl
theorem q912 : (Jvm.Cond.methodLink "java/lang/ArrayIndexOutOfBoundsException" (7 : Nat) ({ cls := "java/lang/IndexOutOfBoundsException", name := "<init>", desc := "(Ljava/lang/String;)V" } : Jvm.MethodName)) ∈ lw_all := lw_g (lw_at lw_m4 128 rfl) rfl
theorem q913 : (Jvm.Cond.lays "java/lang/ArrayIndexOutOfBoundsException" "java/lang/Throwable" "depth" "I") ∈ lw_all := lw_g (lw_at lw_m4 129 rfl) rfl
theorem q914 : (Jvm.Cond.superclass "java/lang/ArrayIndexOutOfBoundsException" "java/lang/IndexOutOfBoundsException") ∈ lw_all := lw_g (lw_at lw_m4 130 rfl) rfl
theorem q1041 : (Jvm.Cond.instanceMethod ({ cls := "java/lang/ArrayIndexOutOfBoundsException", name := "<init>", desc := "(Ljava/lang/String;)V" } : Jvm.MethodName)) ∈ lw_all := lw_g (lw_at lw_m5 17 rfl) rfl
theorem q1042 : (Jvm.Cond.code ({ cls := "java/lang/ArrayIndexOutOfBoundsException", name := "<init>", desc := "(Ljava/lang/String;)V" } : Jvm.MethodName) prog_17_method_2_code (2 : Nat) (Option.none : Option Jvm.ClassFile.FieldType)) ∈ lw_all := lw_g (lw_at lw_m5 18 rfl) rfl
theorem q2200 : (Jvm.Cond.castable "java/lang/ArrayIndexOutOfBoundsException" "java/lang/IndexOutOfBoundsException") ∈ lw_tbl := lw_at lw_m9 216 rfl
theorem q2215 : (Jvm.Cond.castable "java/lang/ArrayIndexOutOfBoundsException" "java/lang/Object") ∈ lw_tbl := lw_at lw_m9 231 rfl
theorem q92 : (Jvm.Cond.initialized "LampLeaseOffice$PoorException") ∈ lw_all := lw_g (lw_at lw_m1 28 rfl) rfl
theorem q347 : (Jvm.Cond.selects "LampLeaseOffice$PoorException" ({ cls := "java/lang/Throwable", name := "fillInStackTrace", desc := "()Ljava/lang/Throwable;" } : Jvm.MethodName) ({ cls := "java/lang/Throwable", name := "fillInStackTrace", desc := "()Ljava/lang/Throwable;" } : Jvm.MethodName)) ∈ lw_all := lw_g (lw_at lw_m2 43 rfl) rfl
theorem q472 : (Jvm.Cond.selects "LampLeaseOffice$PoorException" ({ cls := "java/lang/Object", name := "getClass", desc := "()Ljava/lang/Class;" } : Jvm.MethodName) ({ cls := "java/lang/Object", name := "getClass", desc := "()Ljava/lang/Class;" } : Jvm.MethodName)) ∈ lw_all := lw_g (lw_at lw_m2 168 rfl) rfl
theorem q1089 : (Jvm.Cond.instantiable "LampLeaseOffice$PoorException" (6 : Nat)) ∈ lw_all := lw_g (lw_at lw_m5 65 rfl) rfl
theorem q1090 : (Jvm.Cond.castable "LampLeaseOffice$PoorException" "LampLeaseOffice$PoorException") ∈ lw_tbl := lw_at lw_m5 66 rfl
theorem q1091 : (Jvm.Cond.selects "LampLeaseOffice$PoorException" ({ cls := "java/lang/Throwable", name := "fillInStackTrace", desc := "(I)Ljava/lang/Throwable;" } : Jvm.MethodName) ({ cls := "java/lang/Throwable", name := "fillInStackTrace", desc := "(I)Ljava/lang/Throwable;" } : Jvm.MethodName)) ∈ lw_all := lw_g (lw_at lw_m5 67 rfl) rfl
theorem q1092 : (Jvm.Cond.lays "LampLeaseOffice$PoorException" "java/lang/Throwable" "cause" "Ljava/lang/Throwable;") ∈ lw_all := lw_g (lw_at lw_m5 68 rfl) rfl
theorem q1093 : (Jvm.Cond.lays "LampLeaseOffice$PoorException" "java/lang/Throwable" "stackTrace" "[Ljava/lang/StackTraceElement;") ∈ lw_all := lw_g (lw_at lw_m5 69 rfl) rfl
theorem q1094 : (Jvm.Cond.lays "LampLeaseOffice$PoorException" "java/lang/Throwable" "suppressedExceptions" "Ljava/util/List;") ∈ lw_all := lw_g (lw_at lw_m5 70 rfl) rfl
theorem q1095 : (Jvm.Cond.lays "LampLeaseOffice$PoorException" "java/lang/Throwable" "detailMessage" "Ljava/lang/String;") ∈ lw_all := lw_g (lw_at lw_m5 71 rfl) rfl
theorem q1096 : (Jvm.Cond.lays "LampLeaseOffice$PoorException" "java/lang/Throwable" "backtrace" "Ljava/lang/Object;") ∈ lw_all := lw_g (lw_at lw_m5 72 rfl) rfl
theorem q1098 : (Jvm.Cond.instanceMethod ({ cls := "LampLeaseOffice$PoorException", name := "<init>", desc := "()V" } : Jvm.MethodName)) ∈ lw_all := lw_g (lw_at lw_m5 74 rfl) rfl
theorem q1099 : (Jvm.Cond.code ({ cls := "LampLeaseOffice$PoorException", name := "<init>", desc := "()V" } : Jvm.MethodName) prog_6_method_1_code (1 : Nat) (Option.none : Option Jvm.ClassFile.FieldType)) ∈ lw_all := lw_g (lw_at lw_m5 75 rfl) rfl
theorem q1100 : (Jvm.Cond.methodLink "LampLeaseOffice$PoorException" (1 : Nat) ({ cls := "java/lang/Exception", name := "<init>", desc := "(Ljava/lang/String;Ljava/lang/Throwable;ZZ)V" } : Jvm.MethodName)) ∈ lw_all := lw_g (lw_at lw_m5 76 rfl) rfl
theorem q1106 : (Jvm.Cond.lays "LampLeaseOffice$PoorException" "java/lang/Throwable" "depth" "I") ∈ lw_all := lw_g (lw_at lw_m5 82 rfl) rfl
theorem q1107 : (Jvm.Cond.superclass "LampLeaseOffice$PoorException" "java/lang/Exception") ∈ lw_all := lw_g (lw_at lw_m5 83 rfl) rfl
theorem q2217 : (Jvm.Cond.castable "LampLeaseOffice$PoorException" "java/lang/Object") ∈ lw_tbl := lw_at lw_m9 233 rfl
theorem q93 : (Jvm.Cond.initialized "java/lang/UnsupportedOperationException") ∈ lw_all := lw_g (lw_at lw_m1 29 rfl) rfl
theorem q354 : (Jvm.Cond.selects "java/lang/UnsupportedOperationException" ({ cls := "java/lang/Throwable", name := "fillInStackTrace", desc := "()Ljava/lang/Throwable;" } : Jvm.MethodName) ({ cls := "java/lang/Throwable", name := "fillInStackTrace", desc := "()Ljava/lang/Throwable;" } : Jvm.MethodName)) ∈ lw_all := lw_g (lw_at lw_m2 50 rfl) rfl
theorem q486 : (Jvm.Cond.selects "java/lang/UnsupportedOperationException" ({ cls := "java/lang/Object", name := "getClass", desc := "()Ljava/lang/Class;" } : Jvm.MethodName) ({ cls := "java/lang/Object", name := "getClass", desc := "()Ljava/lang/Class;" } : Jvm.MethodName)) ∈ lw_all := lw_g (lw_at lw_m2 182 rfl) rfl
theorem q1109 : (Jvm.Cond.instantiable "java/lang/UnsupportedOperationException" (6 : Nat)) ∈ lw_all := lw_g (lw_at lw_m5 85 rfl) rfl
theorem q1110 : (Jvm.Cond.castable "java/lang/UnsupportedOperationException" "java/lang/UnsupportedOperationException") ∈ lw_tbl := lw_at lw_m5 86 rfl
theorem q1111 : (Jvm.Cond.selects "java/lang/UnsupportedOperationException" ({ cls := "java/lang/Throwable", name := "fillInStackTrace", desc := "(I)Ljava/lang/Throwable;" } : Jvm.MethodName) ({ cls := "java/lang/Throwable", name := "fillInStackTrace", desc := "(I)Ljava/lang/Throwable;" } : Jvm.MethodName)) ∈ lw_all := lw_g (lw_at lw_m5 87 rfl) rfl
theorem q1112 : (Jvm.Cond.lays "java/lang/UnsupportedOperationException" "java/lang/Throwable" "cause" "Ljava/lang/Throwable;") ∈ lw_all := lw_g (lw_at lw_m5 88 rfl) rfl
theorem q1113 : (Jvm.Cond.lays "java/lang/UnsupportedOperationException" "java/lang/Throwable" "stackTrace" "[Ljava/lang/StackTraceElement;") ∈ lw_all := lw_g (lw_at lw_m5 89 rfl) rfl
theorem q1114 : (Jvm.Cond.lays "java/lang/UnsupportedOperationException" "java/lang/Throwable" "suppressedExceptions" "Ljava/util/List;") ∈ lw_all := lw_g (lw_at lw_m5 90 rfl) rfl
theorem q1115 : (Jvm.Cond.lays "java/lang/UnsupportedOperationException" "java/lang/Throwable" "detailMessage" "Ljava/lang/String;") ∈ lw_all := lw_g (lw_at lw_m5 91 rfl) rfl
theorem q1116 : (Jvm.Cond.lays "java/lang/UnsupportedOperationException" "java/lang/Throwable" "backtrace" "Ljava/lang/Object;") ∈ lw_all := lw_g (lw_at lw_m5 92 rfl) rfl
theorem q1118 : (Jvm.Cond.instanceMethod ({ cls := "java/lang/UnsupportedOperationException", name := "<init>", desc := "()V" } : Jvm.MethodName)) ∈ lw_all := lw_g (lw_at lw_m5 94 rfl) rfl
theorem q1119 : (Jvm.Cond.code ({ cls := "java/lang/UnsupportedOperationException", name := "<init>", desc := "()V" } : Jvm.MethodName) prog_38_method_1_code (1 : Nat) (Option.none : Option Jvm.ClassFile.FieldType)) ∈ lw_all := lw_g (lw_at lw_m5 95 rfl) rfl
theorem q1120 : (Jvm.Cond.methodLink "java/lang/UnsupportedOperationException" (1 : Nat) ({ cls := "java/lang/RuntimeException", name := "<init>", desc := "()V" } : Jvm.MethodName)) ∈ lw_all := lw_g (lw_at lw_m5 96 rfl) rfl
theorem q1121 : (Jvm.Cond.lays "java/lang/UnsupportedOperationException" "java/lang/Throwable" "depth" "I") ∈ lw_all := lw_g (lw_at lw_m5 97 rfl) rfl
theorem q1122 : (Jvm.Cond.superclass "java/lang/UnsupportedOperationException" "java/lang/RuntimeException") ∈ lw_all := lw_g (lw_at lw_m5 98 rfl) rfl
theorem q2218 : (Jvm.Cond.castable "java/lang/UnsupportedOperationException" "java/lang/Object") ∈ lw_tbl := lw_at lw_m9 234 rfl
theorem q94 : (Jvm.Cond.initialized "LampLeaseOffice$Request") ∈ lw_all := lw_g (lw_at lw_m1 30 rfl) rfl
theorem q473 : (Jvm.Cond.selects "LampLeaseOffice$Request" ({ cls := "java/lang/Object", name := "getClass", desc := "()Ljava/lang/Class;" } : Jvm.MethodName) ({ cls := "java/lang/Object", name := "getClass", desc := "()Ljava/lang/Class;" } : Jvm.MethodName)) ∈ lw_all := lw_g (lw_at lw_m2 169 rfl) rfl
theorem q1145 : (Jvm.Cond.instantiable "LampLeaseOffice$Request" (2 : Nat)) ∈ lw_all := lw_g (lw_at lw_m5 121 rfl) rfl
theorem q1147 : (Jvm.Cond.instanceMethod ({ cls := "LampLeaseOffice$Request", name := "<init>", desc := "(II)V" } : Jvm.MethodName)) ∈ lw_all := lw_g (lw_at lw_m5 123 rfl) rfl
theorem q1148 : (Jvm.Cond.code ({ cls := "LampLeaseOffice$Request", name := "<init>", desc := "(II)V" } : Jvm.MethodName) prog_7_method_1_code (3 : Nat) (Option.none : Option Jvm.ClassFile.FieldType)) ∈ lw_all := lw_g (lw_at lw_m5 124 rfl) rfl
theorem q1149 : (Jvm.Cond.methodLink "LampLeaseOffice$Request" (1 : Nat) ({ cls := "java/lang/Object", name := "<init>", desc := "()V" } : Jvm.MethodName)) ∈ lw_all := lw_g (lw_at lw_m5 125 rfl) rfl
theorem q1150 : (Jvm.Cond.fieldLink "LampLeaseOffice$Request" (7 : Nat) "LampLeaseOffice$Request" "lamp" "I") ∈ lw_all := lw_g (lw_at lw_m5 126 rfl) rfl
theorem q1153 : (Jvm.Cond.fieldLink "LampLeaseOffice$Request" (13 : Nat) "LampLeaseOffice$Request" "hours" "I") ∈ lw_all := lw_g (lw_at lw_m5 129 rfl) rfl
theorem q1156 : (Jvm.Cond.laysFinal "LampLeaseOffice$Request" "LampLeaseOffice$Request" "lamp" "I") ∈ lw_all := lw_g (lw_at lw_m5 132 rfl) rfl
theorem q1157 : (Jvm.Cond.soleField "LampLeaseOffice$Request" "lamp") ∈ lw_all := lw_g (lw_at lw_m5 133 rfl) rfl
theorem q1158 : (Jvm.Cond.laysFinal "LampLeaseOffice$Request" "LampLeaseOffice$Request" "hours" "I") ∈ lw_all := lw_g (lw_at lw_m5 134 rfl) rfl
theorem q1159 : (Jvm.Cond.soleField "LampLeaseOffice$Request" "hours") ∈ lw_all := lw_g (lw_at lw_m5 135 rfl) rfl
theorem q1160 : (Jvm.Cond.superclass "LampLeaseOffice$Request" "java/lang/Object") ∈ lw_all := lw_g (lw_at lw_m5 136 rfl) rfl
theorem q2219 : (Jvm.Cond.castable "LampLeaseOffice$Request" "java/lang/Object") ∈ lw_tbl := lw_at lw_m9 235 rfl
theorem q95 : (Jvm.Cond.initialized "java/lang/ArithmeticException") ∈ lw_all := lw_g (lw_at lw_m1 31 rfl) rfl
theorem q348 : (Jvm.Cond.selects "java/lang/ArithmeticException" ({ cls := "java/lang/Throwable", name := "fillInStackTrace", desc := "()Ljava/lang/Throwable;" } : Jvm.MethodName) ({ cls := "java/lang/Throwable", name := "fillInStackTrace", desc := "()Ljava/lang/Throwable;" } : Jvm.MethodName)) ∈ lw_all := lw_g (lw_at lw_m2 44 rfl) rfl
theorem q477 : (Jvm.Cond.selects "java/lang/ArithmeticException" ({ cls := "java/lang/Object", name := "getClass", desc := "()Ljava/lang/Class;" } : Jvm.MethodName) ({ cls := "java/lang/Object", name := "getClass", desc := "()Ljava/lang/Class;" } : Jvm.MethodName)) ∈ lw_all := lw_g (lw_at lw_m2 173 rfl) rfl
theorem q1398 : (Jvm.Cond.instantiable "java/lang/ArithmeticException" (6 : Nat)) ∈ lw_all := lw_g (lw_at lw_m6 134 rfl) rfl
theorem q1399 : (Jvm.Cond.instanceMethod ({ cls := "java/lang/ArithmeticException", name := "<init>", desc := "(Ljava/lang/String;)V" } : Jvm.MethodName)) ∈ lw_all := lw_g (lw_at lw_m6 135 rfl) rfl
theorem q1400 : (Jvm.Cond.code ({ cls := "java/lang/ArithmeticException", name := "<init>", desc := "(Ljava/lang/String;)V" } : Jvm.MethodName) prog_16_method_2_code (2 : Nat) (Option.none : Option Jvm.ClassFile.FieldType)) ∈ lw_all := lw_g (lw_at lw_m6 136 rfl) rfl
theorem q1401 : (Jvm.Cond.methodLink "java/lang/ArithmeticException" (7 : Nat) ({ cls := "java/lang/RuntimeException", name := "<init>", desc := "(Ljava/lang/String;)V" } : Jvm.MethodName)) ∈ lw_all := lw_g (lw_at lw_m6 137 rfl) rfl
theorem q1402 : (Jvm.Cond.lays "java/lang/ArithmeticException" "java/lang/Throwable" "backtrace" "Ljava/lang/Object;") ∈ lw_all := lw_g (lw_at lw_m6 138 rfl) rfl
theorem q1403 : (Jvm.Cond.lays "java/lang/ArithmeticException" "java/lang/Throwable" "detailMessage" "Ljava/lang/String;") ∈ lw_all := lw_g (lw_at lw_m6 139 rfl) rfl
theorem q1404 : (Jvm.Cond.lays "java/lang/ArithmeticException" "java/lang/Throwable" "cause" "Ljava/lang/Throwable;") ∈ lw_all := lw_g (lw_at lw_m6 140 rfl) rfl
theorem q1405 : (Jvm.Cond.lays "java/lang/ArithmeticException" "java/lang/Throwable" "stackTrace" "[Ljava/lang/StackTraceElement;") ∈ lw_all := lw_g (lw_at lw_m6 141 rfl) rfl
theorem q1406 : (Jvm.Cond.lays "java/lang/ArithmeticException" "java/lang/Throwable" "depth" "I") ∈ lw_all := lw_g (lw_at lw_m6 142 rfl) rfl
theorem q1407 : (Jvm.Cond.lays "java/lang/ArithmeticException" "java/lang/Throwable" "suppressedExceptions" "Ljava/util/List;") ∈ lw_all := lw_g (lw_at lw_m6 143 rfl) rfl
theorem q1408 : (Jvm.Cond.superclass "java/lang/ArithmeticException" "java/lang/RuntimeException") ∈ lw_all := lw_g (lw_at lw_m6 144 rfl) rfl
theorem q1409 : (Jvm.Cond.castable "java/lang/ArithmeticException" "java/lang/ArithmeticException") ∈ lw_tbl := lw_at lw_m6 145 rfl
theorem q1410 : (Jvm.Cond.selects "java/lang/ArithmeticException" ({ cls := "java/lang/Throwable", name := "fillInStackTrace", desc := "(I)Ljava/lang/Throwable;" } : Jvm.MethodName) ({ cls := "java/lang/Throwable", name := "fillInStackTrace", desc := "(I)Ljava/lang/Throwable;" } : Jvm.MethodName)) ∈ lw_all := lw_g (lw_at lw_m6 146 rfl) rfl
theorem q1420 : (Jvm.Cond.instanceMethod ({ cls := "java/lang/ArithmeticException", name := "<init>", desc := "()V" } : Jvm.MethodName)) ∈ lw_all := lw_g (lw_at lw_m6 156 rfl) rfl
theorem q1421 : (Jvm.Cond.code ({ cls := "java/lang/ArithmeticException", name := "<init>", desc := "()V" } : Jvm.MethodName) prog_16_method_1_code (1 : Nat) (Option.none : Option Jvm.ClassFile.FieldType)) ∈ lw_all := lw_g (lw_at lw_m6 157 rfl) rfl
theorem q1422 : (Jvm.Cond.methodLink "java/lang/ArithmeticException" (1 : Nat) ({ cls := "java/lang/RuntimeException", name := "<init>", desc := "()V" } : Jvm.MethodName)) ∈ lw_all := lw_g (lw_at lw_m6 158 rfl) rfl
theorem q2220 : (Jvm.Cond.castable "java/lang/ArithmeticException" "java/lang/Object") ∈ lw_tbl := lw_at lw_m9 236 rfl
theorem q96 : (Jvm.Cond.initialized "LampLeaseOffice$Parser") ∈ lw_all := lw_g (lw_at lw_m1 32 rfl) rfl
theorem q216 : (Jvm.Cond.fieldLinkNest "LampLeaseOffice$Parser" (22 : Nat) "LampLeaseOffice" "input" "[C" "LampLeaseOffice") ∈ lw_tbl := lw_at lw_m1 152 rfl
theorem q217 : (Jvm.Cond.fieldLinkNest "LampLeaseOffice$Parser" (17 : Nat) "LampLeaseOffice" "inputLength" "I" "LampLeaseOffice") ∈ lw_tbl := lw_at lw_m1 153 rfl
theorem q471 : (Jvm.Cond.selects "LampLeaseOffice$Parser" ({ cls := "java/lang/Object", name := "getClass", desc := "()Ljava/lang/Class;" } : Jvm.MethodName) ({ cls := "java/lang/Object", name := "getClass", desc := "()Ljava/lang/Class;" } : Jvm.MethodName)) ∈ lw_all := lw_g (lw_at lw_m2 167 rfl) rfl
theorem q1453 : (Jvm.Cond.instantiable "LampLeaseOffice$Parser" (5 : Nat)) ∈ lw_all := lw_g (lw_at lw_m6 189 rfl) rfl
theorem q1455 : (Jvm.Cond.instanceMethod ({ cls := "LampLeaseOffice$Parser", name := "<init>", desc := "(LLampLeaseOffice;)V" } : Jvm.MethodName)) ∈ lw_all := lw_g (lw_at lw_m6 191 rfl) rfl
theorem q1456 : (Jvm.Cond.code ({ cls := "LampLeaseOffice$Parser", name := "<init>", desc := "(LLampLeaseOffice;)V" } : Jvm.MethodName) prog_5_method_1_code (2 : Nat) (Option.none : Option Jvm.ClassFile.FieldType)) ∈ lw_all := lw_g (lw_at lw_m6 192 rfl) rfl
theorem q1457 : (Jvm.Cond.methodLink "LampLeaseOffice$Parser" (7 : Nat) ({ cls := "java/lang/Object", name := "<init>", desc := "()V" } : Jvm.MethodName)) ∈ lw_all := lw_g (lw_at lw_m6 193 rfl) rfl
theorem q1458 : (Jvm.Cond.fieldLink "LampLeaseOffice$Parser" (13 : Nat) "LampLeaseOffice$Parser" "at" "I") ∈ lw_all := lw_g (lw_at lw_m6 194 rfl) rfl
theorem q1459 : (Jvm.Cond.fieldLink "LampLeaseOffice$Parser" (75 : Nat) "LampLeaseOffice$Parser" "one" "I") ∈ lw_all := lw_g (lw_at lw_m6 195 rfl) rfl
theorem q1460 : (Jvm.Cond.fieldLink "LampLeaseOffice$Parser" (78 : Nat) "LampLeaseOffice$Parser" "two" "I") ∈ lw_all := lw_g (lw_at lw_m6 196 rfl) rfl
theorem q1461 : (Jvm.Cond.fieldLink "LampLeaseOffice$Parser" (81 : Nat) "LampLeaseOffice$Parser" "three" "I") ∈ lw_all := lw_g (lw_at lw_m6 197 rfl) rfl
theorem q1462 : (Jvm.Cond.fieldLink "LampLeaseOffice$Parser" (1 : Nat) "LampLeaseOffice$Parser" "this$0" "LLampLeaseOffice;") ∈ lw_all := lw_g (lw_at lw_m6 198 rfl) rfl
theorem q1463 : (Jvm.Cond.lays "LampLeaseOffice$Parser" "LampLeaseOffice$Parser" "at" "I") ∈ lw_all := lw_g (lw_at lw_m6 199 rfl) rfl
theorem q1464 : (Jvm.Cond.soleField "LampLeaseOffice$Parser" "at") ∈ lw_all := lw_g (lw_at lw_m6 200 rfl) rfl
theorem q1465 : (Jvm.Cond.lays "LampLeaseOffice$Parser" "LampLeaseOffice$Parser" "one" "I") ∈ lw_all := lw_g (lw_at lw_m6 201 rfl) rfl
theorem q1466 : (Jvm.Cond.soleField "LampLeaseOffice$Parser" "one") ∈ lw_all := lw_g (lw_at lw_m6 202 rfl) rfl
theorem q1467 : (Jvm.Cond.lays "LampLeaseOffice$Parser" "LampLeaseOffice$Parser" "two" "I") ∈ lw_all := lw_g (lw_at lw_m6 203 rfl) rfl
theorem q1468 : (Jvm.Cond.soleField "LampLeaseOffice$Parser" "two") ∈ lw_all := lw_g (lw_at lw_m6 204 rfl) rfl
theorem q1469 : (Jvm.Cond.lays "LampLeaseOffice$Parser" "LampLeaseOffice$Parser" "three" "I") ∈ lw_all := lw_g (lw_at lw_m6 205 rfl) rfl
theorem q1470 : (Jvm.Cond.soleField "LampLeaseOffice$Parser" "three") ∈ lw_all := lw_g (lw_at lw_m6 206 rfl) rfl
theorem q1471 : (Jvm.Cond.laysFinal "LampLeaseOffice$Parser" "LampLeaseOffice$Parser" "this$0" "LLampLeaseOffice;") ∈ lw_all := lw_g (lw_at lw_m6 207 rfl) rfl
theorem q1472 : (Jvm.Cond.soleField "LampLeaseOffice$Parser" "this$0") ∈ lw_all := lw_g (lw_at lw_m6 208 rfl) rfl
theorem q1473 : (Jvm.Cond.superclass "LampLeaseOffice$Parser" "java/lang/Object") ∈ lw_all := lw_g (lw_at lw_m6 209 rfl) rfl
theorem q1475 : (Jvm.Cond.instanceMethod ({ cls := "LampLeaseOffice$Parser", name := "commands", desc := "(LLampLeaseOffice$State;)I" } : Jvm.MethodName)) ∈ lw_all := lw_g (lw_at lw_m6 211 rfl) rfl
theorem q1476 : (Jvm.Cond.selects "LampLeaseOffice$Parser" ({ cls := "LampLeaseOffice$Parser", name := "commands", desc := "(LLampLeaseOffice$State;)I" } : Jvm.MethodName) ({ cls := "LampLeaseOffice$Parser", name := "commands", desc := "(LLampLeaseOffice$State;)I" } : Jvm.MethodName)) ∈ lw_all := lw_g (lw_at lw_m6 212 rfl) rfl
theorem q1477 : (Jvm.Cond.code ({ cls := "LampLeaseOffice$Parser", name := "commands", desc := "(LLampLeaseOffice$State;)I" } : Jvm.MethodName) prog_5_method_10_code (3 : Nat) (Option.some Jvm.ClassFile.FieldType.int)) ∈ lw_all := lw_g (lw_at lw_m6 213 rfl) rfl
theorem q1478 : (Jvm.Cond.methodLink "LampLeaseOffice$Parser" (141 : Nat) ({ cls := "LampLeaseOffice$Parser", name := "command", desc := "(LLampLeaseOffice$State;I)V" } : Jvm.MethodName)) ∈ lw_all := lw_g (lw_at lw_m6 214 rfl) rfl
theorem q1479 : (Jvm.Cond.privateMethod ({ cls := "LampLeaseOffice$Parser", name := "command", desc := "(LLampLeaseOffice$State;I)V" } : Jvm.MethodName)) ∈ lw_tbl := lw_at lw_m6 215 rfl
theorem q1480 : (Jvm.Cond.instanceMethod ({ cls := "LampLeaseOffice$Parser", name := "command", desc := "(LLampLeaseOffice$State;I)V" } : Jvm.MethodName)) ∈ lw_all := lw_g (lw_at lw_m6 216 rfl) rfl
theorem q1481 : (Jvm.Cond.codeWith ({ cls := "LampLeaseOffice$Parser", name := "command", desc := "(LLampLeaseOffice$State;I)V" } : Jvm.MethodName) prog_5_method_9_code (5 : Nat) (Option.none : Option Jvm.ClassFile.FieldType) [((45 : Nat), (55 : Nat), (58 : Nat), (126 : Nat)), ((45 : Nat), (55 : Nat), (58 : Nat), (128 : Nat)), ((45 : Nat), (55 : Nat), (58 : Nat), (130 : Nat)), ((45 : Nat), (55 : Nat), (58 : Nat), (132 : Nat)), ((45 : Nat), (55 : Nat), (58 : Nat), (134 : Nat))]) ∈ lw_all := lw_g (lw_at lw_m6 217 rfl) rfl
theorem q1482 : (Jvm.Cond.classLink "LampLeaseOffice$Parser" (126 : Nat) "java/lang/IndexOutOfBoundsException") ∈ lw_all := lw_g (lw_at lw_m6 218 rfl) rfl
theorem q1483 : (Jvm.Cond.classLink "LampLeaseOffice$Parser" (128 : Nat) "java/lang/IllegalArgumentException") ∈ lw_all := lw_g (lw_at lw_m6 219 rfl) rfl
theorem q1484 : (Jvm.Cond.classLink "LampLeaseOffice$Parser" (130 : Nat) "java/lang/IllegalStateException") ∈ lw_all := lw_g (lw_at lw_m6 220 rfl) rfl
theorem q1485 : (Jvm.Cond.classLink "LampLeaseOffice$Parser" (132 : Nat) "java/util/NoSuchElementException") ∈ lw_all := lw_g (lw_at lw_m6 221 rfl) rfl
theorem q1486 : (Jvm.Cond.classLink "LampLeaseOffice$Parser" (134 : Nat) "java/lang/UnsupportedOperationException") ∈ lw_all := lw_g (lw_at lw_m6 222 rfl) rfl
theorem q1487 : (Jvm.Cond.methodLink "LampLeaseOffice$Parser" (108 : Nat) ({ cls := "LampLeaseOffice$Parser", name := "keyword", desc := "()Ljava/lang/String;" } : Jvm.MethodName)) ∈ lw_all := lw_g (lw_at lw_m6 223 rfl) rfl
theorem q1488 : (Jvm.Cond.privateMethod ({ cls := "LampLeaseOffice$Parser", name := "keyword", desc := "()Ljava/lang/String;" } : Jvm.MethodName)) ∈ lw_tbl := lw_at lw_m6 224 rfl
theorem q1489 : (Jvm.Cond.instanceMethod ({ cls := "LampLeaseOffice$Parser", name := "keyword", desc := "()Ljava/lang/String;" } : Jvm.MethodName)) ∈ lw_all := lw_g (lw_at lw_m6 225 rfl) rfl
theorem q1490 : (Jvm.Cond.code ({ cls := "LampLeaseOffice$Parser", name := "keyword", desc := "()Ljava/lang/String;" } : Jvm.MethodName) prog_5_method_6_code (1 : Nat) (Option.some (Jvm.ClassFile.FieldType.object "java/lang/String"))) ∈ lw_all := lw_g (lw_at lw_m6 226 rfl) rfl
theorem q1491 : (Jvm.Cond.methodLink "LampLeaseOffice$Parser" (43 : Nat) ({ cls := "LampLeaseOffice$Parser", name := "peek", desc := "(I)C" } : Jvm.MethodName)) ∈ lw_all := lw_g (lw_at lw_m6 227 rfl) rfl
theorem q1492 : (Jvm.Cond.privateMethod ({ cls := "LampLeaseOffice$Parser", name := "peek", desc := "(I)C" } : Jvm.MethodName)) ∈ lw_tbl := lw_at lw_m6 228 rfl
theorem q1493 : (Jvm.Cond.instanceMethod ({ cls := "LampLeaseOffice$Parser", name := "peek", desc := "(I)C" } : Jvm.MethodName)) ∈ lw_all := lw_g (lw_at lw_m6 229 rfl) rfl
theorem q1494 : (Jvm.Cond.code ({ cls := "LampLeaseOffice$Parser", name := "peek", desc := "(I)C" } : Jvm.MethodName) prog_5_method_5_code (2 : Nat) (Option.some Jvm.ClassFile.FieldType.char)) ∈ lw_all := lw_g (lw_at lw_m6 230 rfl) rfl
theorem q1495 : (Jvm.Cond.stringRef "LampLeaseOffice$Parser" (47 : Nat) "lease") ∈ lw_tbl := lw_at lw_m6 231 rfl
theorem q1496 : (Jvm.Cond.stringRef "LampLeaseOffice$Parser" (49 : Nat) "lamp") ∈ lw_tbl := lw_at lw_m6 232 rfl
theorem q1497 : (Jvm.Cond.stringRef "LampLeaseOffice$Parser" (51 : Nat) "oil") ∈ lw_tbl := lw_at lw_m6 233 rfl
theorem q1498 : (Jvm.Cond.stringRef "LampLeaseOffice$Parser" (53 : Nat) "renew") ∈ lw_tbl := lw_at lw_m6 234 rfl
theorem q1499 : (Jvm.Cond.stringRef "LampLeaseOffice$Parser" (55 : Nat) "drop") ∈ lw_tbl := lw_at lw_m6 235 rfl
theorem q1500 : (Jvm.Cond.stringRef "LampLeaseOffice$Parser" (57 : Nat) "wait") ∈ lw_tbl := lw_at lw_m6 236 rfl
theorem q1501 : (Jvm.Cond.stringRef "LampLeaseOffice$Parser" (59 : Nat) "ship") ∈ lw_tbl := lw_at lw_m6 237 rfl
theorem q1502 : (Jvm.Cond.methodLink "LampLeaseOffice$Parser" (112 : Nat) ({ cls := "java/lang/String", name := "length", desc := "()I" } : Jvm.MethodName)) ∈ lw_all := lw_g (lw_at lw_m6 238 rfl) rfl
theorem q1503 : (Jvm.Cond.methodLink "LampLeaseOffice$Parser" (115 : Nat) ({ cls := "java/lang/String", name := "charAt", desc := "(I)C" } : Jvm.MethodName)) ∈ lw_all := lw_g (lw_at lw_m6 239 rfl) rfl
theorem q1518 : (Jvm.Cond.methodLink "LampLeaseOffice$Parser" (39 : Nat) ({ cls := "LampLeaseOffice$Parser", name := "next", desc := "(CC)C" } : Jvm.MethodName)) ∈ lw_all := lw_g (lw_at lw_m7 14 rfl) rfl
theorem q1519 : (Jvm.Cond.privateMethod ({ cls := "LampLeaseOffice$Parser", name := "next", desc := "(CC)C" } : Jvm.MethodName)) ∈ lw_tbl := lw_at lw_m7 15 rfl
theorem q1520 : (Jvm.Cond.instanceMethod ({ cls := "LampLeaseOffice$Parser", name := "next", desc := "(CC)C" } : Jvm.MethodName)) ∈ lw_all := lw_g (lw_at lw_m7 16 rfl) rfl
theorem q1521 : (Jvm.Cond.code ({ cls := "LampLeaseOffice$Parser", name := "next", desc := "(CC)C" } : Jvm.MethodName) prog_5_method_3_code (3 : Nat) (Option.some Jvm.ClassFile.FieldType.char)) ∈ lw_all := lw_g (lw_at lw_m7 17 rfl) rfl
theorem q1522 : (Jvm.Cond.methodLink "LampLeaseOffice$Parser" (30 : Nat) ({ cls := "LampLeaseOffice$Parser", name := "sees", desc := "(CC)Z" } : Jvm.MethodName)) ∈ lw_all := lw_g (lw_at lw_m7 18 rfl) rfl
theorem q1523 : (Jvm.Cond.privateMethod ({ cls := "LampLeaseOffice$Parser", name := "sees", desc := "(CC)Z" } : Jvm.MethodName)) ∈ lw_tbl := lw_at lw_m7 19 rfl
theorem q1524 : (Jvm.Cond.instanceMethod ({ cls := "LampLeaseOffice$Parser", name := "sees", desc := "(CC)Z" } : Jvm.MethodName)) ∈ lw_all := lw_g (lw_at lw_m7 20 rfl) rfl
theorem q1525 : (Jvm.Cond.code ({ cls := "LampLeaseOffice$Parser", name := "sees", desc := "(CC)Z" } : Jvm.MethodName) prog_5_method_2_code (3 : Nat) (Option.some Jvm.ClassFile.FieldType.boolean)) ∈ lw_all := lw_g (lw_at lw_m7 21 rfl) rfl
theorem q1526 : (Jvm.Cond.methodLinkNest "LampLeaseOffice$Parser" (26 : Nat) ({ cls := "LampLeaseOffice", name := "isBetween", desc := "(III)Z" } : Jvm.MethodName) "LampLeaseOffice") ∈ lw_tbl := lw_at lw_m7 22 rfl
theorem q1527 : (Jvm.Cond.classLink "LampLeaseOffice$Parser" (34 : Nat) "LampLeaseOffice$MalformedException") ∈ lw_all := lw_g (lw_at lw_m7 23 rfl) rfl
theorem q1536 : (Jvm.Cond.methodLink "LampLeaseOffice$Parser" (36 : Nat) ({ cls := "LampLeaseOffice$MalformedException", name := "<init>", desc := "(I)V" } : Jvm.MethodName)) ∈ lw_all := lw_g (lw_at lw_m7 32 rfl) rfl
theorem q1554 : (Jvm.Cond.methodLink "LampLeaseOffice$Parser" (118 : Nat) ({ cls := "LampLeaseOffice$Parser", name := "readNumbers", desc := "(Ljava/lang/String;)V" } : Jvm.MethodName)) ∈ lw_all := lw_g (lw_at lw_m7 50 rfl) rfl
theorem q1555 : (Jvm.Cond.privateMethod ({ cls := "LampLeaseOffice$Parser", name := "readNumbers", desc := "(Ljava/lang/String;)V" } : Jvm.MethodName)) ∈ lw_tbl := lw_at lw_m7 51 rfl
theorem q1556 : (Jvm.Cond.instanceMethod ({ cls := "LampLeaseOffice$Parser", name := "readNumbers", desc := "(Ljava/lang/String;)V" } : Jvm.MethodName)) ∈ lw_all := lw_g (lw_at lw_m7 52 rfl) rfl
theorem q1557 : (Jvm.Cond.code ({ cls := "LampLeaseOffice$Parser", name := "readNumbers", desc := "(Ljava/lang/String;)V" } : Jvm.MethodName) prog_5_method_7_code (4 : Nat) (Option.none : Option Jvm.ClassFile.FieldType)) ∈ lw_all := lw_g (lw_at lw_m7 53 rfl) rfl
theorem q1558 : (Jvm.Cond.methodLink "LampLeaseOffice$Parser" (61 : Nat) ({ cls := "java/lang/String", name := "hashCode", desc := "()I" } : Jvm.MethodName)) ∈ lw_all := lw_g (lw_at lw_m7 54 rfl) rfl
theorem q1615 : (Jvm.Cond.methodLink "LampLeaseOffice$Parser" (67 : Nat) ({ cls := "java/lang/String", name := "equals", desc := "(Ljava/lang/Object;)Z" } : Jvm.MethodName)) ∈ lw_all := lw_g (lw_at lw_m7 111 rfl) rfl
theorem q1623 : (Jvm.Cond.methodLink "LampLeaseOffice$Parser" (71 : Nat) ({ cls := "LampLeaseOffice$Parser", name := "number", desc := "(I)I" } : Jvm.MethodName)) ∈ lw_all := lw_g (lw_at lw_m7 119 rfl) rfl
theorem q1624 : (Jvm.Cond.privateMethod ({ cls := "LampLeaseOffice$Parser", name := "number", desc := "(I)I" } : Jvm.MethodName)) ∈ lw_tbl := lw_at lw_m7 120 rfl
theorem q1625 : (Jvm.Cond.instanceMethod ({ cls := "LampLeaseOffice$Parser", name := "number", desc := "(I)I" } : Jvm.MethodName)) ∈ lw_all := lw_g (lw_at lw_m7 121 rfl) rfl
theorem q1626 : (Jvm.Cond.code ({ cls := "LampLeaseOffice$Parser", name := "number", desc := "(I)I" } : Jvm.MethodName) prog_5_method_4_code (4 : Nat) (Option.some Jvm.ClassFile.FieldType.int)) ∈ lw_all := lw_g (lw_at lw_m7 122 rfl) rfl
theorem q1627 : (Jvm.Cond.methodLink "LampLeaseOffice$Parser" (122 : Nat) ({ cls := "LampLeaseOffice$Parser", name := "carryOut", desc := "(LLampLeaseOffice$State;Ljava/lang/String;)V" } : Jvm.MethodName)) ∈ lw_all := lw_g (lw_at lw_m7 123 rfl) rfl
theorem q1628 : (Jvm.Cond.privateMethod ({ cls := "LampLeaseOffice$Parser", name := "carryOut", desc := "(LLampLeaseOffice$State;Ljava/lang/String;)V" } : Jvm.MethodName)) ∈ lw_tbl := lw_at lw_m7 124 rfl
theorem q1629 : (Jvm.Cond.instanceMethod ({ cls := "LampLeaseOffice$Parser", name := "carryOut", desc := "(LLampLeaseOffice$State;Ljava/lang/String;)V" } : Jvm.MethodName)) ∈ lw_all := lw_g (lw_at lw_m7 125 rfl) rfl
theorem q1630 : (Jvm.Cond.code ({ cls := "LampLeaseOffice$Parser", name := "carryOut", desc := "(LLampLeaseOffice$State;Ljava/lang/String;)V" } : Jvm.MethodName) prog_5_method_8_code (5 : Nat) (Option.none : Option Jvm.ClassFile.FieldType)) ∈ lw_all := lw_g (lw_at lw_m7 126 rfl) rfl
theorem q1631 : (Jvm.Cond.methodLink "LampLeaseOffice$Parser" (84 : Nat) ({ cls := "LampLeaseOffice$State", name := "addShip", desc := "()I" } : Jvm.MethodName)) ∈ lw_all := lw_g (lw_at lw_m7 127 rfl) rfl
theorem q1632 : (Jvm.Cond.methodLink "LampLeaseOffice$Parser" (89 : Nat) ({ cls := "LampLeaseOffice$State", name := "addLamp", desc := "(I)I" } : Jvm.MethodName)) ∈ lw_all := lw_g (lw_at lw_m7 128 rfl) rfl
theorem q1633 : (Jvm.Cond.methodLink "LampLeaseOffice$Parser" (92 : Nat) ({ cls := "LampLeaseOffice$State", name := "giveUp", desc := "(I)I" } : Jvm.MethodName)) ∈ lw_all := lw_g (lw_at lw_m7 129 rfl) rfl
theorem q1634 : (Jvm.Cond.methodLink "LampLeaseOffice$Parser" (95 : Nat) ({ cls := "LampLeaseOffice$State", name := "addOil", desc := "(I)I" } : Jvm.MethodName)) ∈ lw_all := lw_g (lw_at lw_m7 130 rfl) rfl
theorem q1635 : (Jvm.Cond.methodLink "LampLeaseOffice$Parser" (98 : Nat) ({ cls := "LampLeaseOffice$State", name := "passHours", desc := "(I)I" } : Jvm.MethodName)) ∈ lw_all := lw_g (lw_at lw_m7 131 rfl) rfl
theorem q1636 : (Jvm.Cond.methodLink "LampLeaseOffice$Parser" (101 : Nat) ({ cls := "LampLeaseOffice$State", name := "request", desc := "(II)I" } : Jvm.MethodName)) ∈ lw_all := lw_g (lw_at lw_m7 132 rfl) rfl
theorem q1637 : (Jvm.Cond.methodLink "LampLeaseOffice$Parser" (105 : Nat) ({ cls := "LampLeaseOffice$State", name := "lease", desc := "(III)I" } : Jvm.MethodName)) ∈ lw_all := lw_g (lw_at lw_m7 133 rfl) rfl
theorem q1638 : (Jvm.Cond.classLink "LampLeaseOffice$Parser" (136 : Nat) "LampLeaseOffice$CommandException") ∈ lw_all := lw_g (lw_at lw_m7 134 rfl) rfl
theorem q1647 : (Jvm.Cond.methodLink "LampLeaseOffice$Parser" (138 : Nat) ({ cls := "LampLeaseOffice$CommandException", name := "<init>", desc := "(ILjava/lang/RuntimeException;)V" } : Jvm.MethodName)) ∈ lw_all := lw_g (lw_at lw_m7 143 rfl) rfl
theorem q2221 : (Jvm.Cond.castable "LampLeaseOffice$Parser" "java/lang/Object") ∈ lw_tbl := lw_at lw_m9 237 rfl
theorem q97 : (Jvm.Cond.initialized "java/lang/StringLatin1") ∈ lw_all := lw_g (lw_at lw_m1 33 rfl) rfl
theorem q733 : (Jvm.Cond.static ({ cls := "java/lang/StringLatin1", name := "inflate", desc := "([BI[BII)V" } : Jvm.MethodName)) ∈ lw_all := lw_g (lw_at lw_m3 189 rfl) rfl
theorem q734 : (Jvm.Cond.code ({ cls := "java/lang/StringLatin1", name := "inflate", desc := "([BI[BII)V" } : Jvm.MethodName) prog_33_method_50_code (5 : Nat) (Option.none : Option Jvm.ClassFile.FieldType)) ∈ lw_all := lw_g (lw_at lw_m3 190 rfl) rfl
theorem q735 : (Jvm.Cond.methodLink "java/lang/StringLatin1" (240 : Nat) ({ cls := "java/lang/StringUTF16", name := "inflate", desc := "([BI[BII)V" } : Jvm.MethodName)) ∈ lw_all := lw_g (lw_at lw_m3 191 rfl) rfl
theorem q881 : (Jvm.Cond.static ({ cls := "java/lang/StringLatin1", name := "fillNull", desc := "([BII)V" } : Jvm.MethodName)) ∈ lw_all := lw_g (lw_at lw_m4 97 rfl) rfl
theorem q882 : (Jvm.Cond.code ({ cls := "java/lang/StringLatin1", name := "fillNull", desc := "([BII)V" } : Jvm.MethodName) prog_33_method_48_code (3 : Nat) (Option.none : Option Jvm.ClassFile.FieldType)) ∈ lw_all := lw_g (lw_at lw_m4 98 rfl) rfl
theorem q883 : (Jvm.Cond.methodLink "java/lang/StringLatin1" (236 : Nat) ({ cls := "java/util/Arrays", name := "fill", desc := "([BIIB)V" } : Jvm.MethodName)) ∈ lw_all := lw_g (lw_at lw_m4 99 rfl) rfl
theorem q931 : (Jvm.Cond.static ({ cls := "java/lang/StringLatin1", name := "canEncode", desc := "(C)Z" } : Jvm.MethodName)) ∈ lw_all := lw_g (lw_at lw_m4 147 rfl) rfl
theorem q932 : (Jvm.Cond.code ({ cls := "java/lang/StringLatin1", name := "canEncode", desc := "(C)Z" } : Jvm.MethodName) prog_33_method_3_code (1 : Nat) (Option.some Jvm.ClassFile.FieldType.boolean)) ∈ lw_all := lw_g (lw_at lw_m4 148 rfl) rfl
theorem q1512 : (Jvm.Cond.static ({ cls := "java/lang/StringLatin1", name := "charAt", desc := "([BI)C" } : Jvm.MethodName)) ∈ lw_all := lw_g (lw_at lw_m7 8 rfl) rfl
theorem q1513 : (Jvm.Cond.code ({ cls := "java/lang/StringLatin1", name := "charAt", desc := "([BI)C" } : Jvm.MethodName) prog_33_method_2_code (2 : Nat) (Option.some Jvm.ClassFile.FieldType.char)) ∈ lw_all := lw_g (lw_at lw_m7 9 rfl) rfl
theorem q1514 : (Jvm.Cond.methodLink "java/lang/StringLatin1" (9 : Nat) ({ cls := "java/lang/String", name := "checkIndex", desc := "(II)V" } : Jvm.MethodName)) ∈ lw_all := lw_g (lw_at lw_m7 10 rfl) rfl
theorem q1563 : (Jvm.Cond.static ({ cls := "java/lang/StringLatin1", name := "hashCode", desc := "([B)I" } : Jvm.MethodName)) ∈ lw_all := lw_g (lw_at lw_m7 59 rfl) rfl
theorem q1564 : (Jvm.Cond.code ({ cls := "java/lang/StringLatin1", name := "hashCode", desc := "([B)I" } : Jvm.MethodName) prog_33_method_21_code (1 : Nat) (Option.some Jvm.ClassFile.FieldType.int)) ∈ lw_all := lw_g (lw_at lw_m7 60 rfl) rfl
theorem q1565 : (Jvm.Cond.methodLink "java/lang/StringLatin1" (84 : Nat) ({ cls := "jdk/internal/util/ArraysSupport", name := "vectorizedHashCode", desc := "(Ljava/lang/Object;IIII)I" } : Jvm.MethodName)) ∈ lw_all := lw_g (lw_at lw_m7 61 rfl) rfl
theorem q1621 : (Jvm.Cond.static ({ cls := "java/lang/StringLatin1", name := "equals", desc := "([B[B)Z" } : Jvm.MethodName)) ∈ lw_all := lw_g (lw_at lw_m7 117 rfl) rfl
theorem q1622 : (Jvm.Cond.code ({ cls := "java/lang/StringLatin1", name := "equals", desc := "([B[B)Z" } : Jvm.MethodName) prog_33_method_13_code (3 : Nat) (Option.some Jvm.ClassFile.FieldType.boolean)) ∈ lw_all := lw_g (lw_at lw_m7 118 rfl) rfl
theorem q98 : (Jvm.Cond.initialized "LampLeaseOffice$TextException") ∈ lw_all := lw_g (lw_at lw_m1 34 rfl) rfl
theorem q1540 : (Jvm.Cond.instanceMethod ({ cls := "LampLeaseOffice$TextException", name := "<init>", desc := "(Ljava/lang/Throwable;)V" } : Jvm.MethodName)) ∈ lw_all := lw_g (lw_at lw_m7 36 rfl) rfl
theorem q1541 : (Jvm.Cond.code ({ cls := "LampLeaseOffice$TextException", name := "<init>", desc := "(Ljava/lang/Throwable;)V" } : Jvm.MethodName) prog_10_method_1_code (2 : Nat) (Option.none : Option Jvm.ClassFile.FieldType)) ∈ lw_all := lw_g (lw_at lw_m7 37 rfl) rfl
theorem q1542 : (Jvm.Cond.methodLink "LampLeaseOffice$TextException" (1 : Nat) ({ cls := "java/lang/Exception", name := "<init>", desc := "(Ljava/lang/String;Ljava/lang/Throwable;)V" } : Jvm.MethodName)) ∈ lw_all := lw_g (lw_at lw_m7 38 rfl) rfl
theorem q99 : (Jvm.Cond.initialized "LampLeaseOffice$MalformedException") ∈ lw_all := lw_g (lw_at lw_m1 35 rfl) rfl
theorem q346 : (Jvm.Cond.selects "LampLeaseOffice$MalformedException" ({ cls := "java/lang/Throwable", name := "fillInStackTrace", desc := "()Ljava/lang/Throwable;" } : Jvm.MethodName) ({ cls := "java/lang/Throwable", name := "fillInStackTrace", desc := "()Ljava/lang/Throwable;" } : Jvm.MethodName)) ∈ lw_all := lw_g (lw_at lw_m2 42 rfl) rfl
theorem q470 : (Jvm.Cond.selects "LampLeaseOffice$MalformedException" ({ cls := "java/lang/Object", name := "getClass", desc := "()Ljava/lang/Class;" } : Jvm.MethodName) ({ cls := "java/lang/Object", name := "getClass", desc := "()Ljava/lang/Class;" } : Jvm.MethodName)) ∈ lw_all := lw_g (lw_at lw_m2 166 rfl) rfl
theorem q1528 : (Jvm.Cond.instantiable "LampLeaseOffice$MalformedException" (7 : Nat)) ∈ lw_all := lw_g (lw_at lw_m7 24 rfl) rfl
theorem q1529 : (Jvm.Cond.castable "LampLeaseOffice$MalformedException" "LampLeaseOffice$MalformedException") ∈ lw_tbl := lw_at lw_m7 25 rfl
theorem q1530 : (Jvm.Cond.selects "LampLeaseOffice$MalformedException" ({ cls := "java/lang/Throwable", name := "fillInStackTrace", desc := "(I)Ljava/lang/Throwable;" } : Jvm.MethodName) ({ cls := "java/lang/Throwable", name := "fillInStackTrace", desc := "(I)Ljava/lang/Throwable;" } : Jvm.MethodName)) ∈ lw_all := lw_g (lw_at lw_m7 26 rfl) rfl
theorem q1531 : (Jvm.Cond.lays "LampLeaseOffice$MalformedException" "java/lang/Throwable" "cause" "Ljava/lang/Throwable;") ∈ lw_all := lw_g (lw_at lw_m7 27 rfl) rfl
theorem q1532 : (Jvm.Cond.lays "LampLeaseOffice$MalformedException" "java/lang/Throwable" "stackTrace" "[Ljava/lang/StackTraceElement;") ∈ lw_all := lw_g (lw_at lw_m7 28 rfl) rfl
theorem q1533 : (Jvm.Cond.lays "LampLeaseOffice$MalformedException" "java/lang/Throwable" "suppressedExceptions" "Ljava/util/List;") ∈ lw_all := lw_g (lw_at lw_m7 29 rfl) rfl
theorem q1534 : (Jvm.Cond.lays "LampLeaseOffice$MalformedException" "java/lang/Throwable" "detailMessage" "Ljava/lang/String;") ∈ lw_all := lw_g (lw_at lw_m7 30 rfl) rfl
theorem q1535 : (Jvm.Cond.lays "LampLeaseOffice$MalformedException" "java/lang/Throwable" "backtrace" "Ljava/lang/Object;") ∈ lw_all := lw_g (lw_at lw_m7 31 rfl) rfl
theorem q1537 : (Jvm.Cond.instanceMethod ({ cls := "LampLeaseOffice$MalformedException", name := "<init>", desc := "(I)V" } : Jvm.MethodName)) ∈ lw_all := lw_g (lw_at lw_m7 33 rfl) rfl
theorem q1538 : (Jvm.Cond.code ({ cls := "LampLeaseOffice$MalformedException", name := "<init>", desc := "(I)V" } : Jvm.MethodName) prog_4_method_1_code (2 : Nat) (Option.none : Option Jvm.ClassFile.FieldType)) ∈ lw_all := lw_g (lw_at lw_m7 34 rfl) rfl
theorem q1539 : (Jvm.Cond.methodLink "LampLeaseOffice$MalformedException" (1 : Nat) ({ cls := "LampLeaseOffice$TextException", name := "<init>", desc := "(Ljava/lang/Throwable;)V" } : Jvm.MethodName)) ∈ lw_all := lw_g (lw_at lw_m7 35 rfl) rfl
theorem q1548 : (Jvm.Cond.fieldLink "LampLeaseOffice$MalformedException" (7 : Nat) "LampLeaseOffice$MalformedException" "position" "I") ∈ lw_all := lw_g (lw_at lw_m7 44 rfl) rfl
theorem q1550 : (Jvm.Cond.laysFinal "LampLeaseOffice$MalformedException" "LampLeaseOffice$MalformedException" "position" "I") ∈ lw_all := lw_g (lw_at lw_m7 46 rfl) rfl
theorem q1551 : (Jvm.Cond.soleField "LampLeaseOffice$MalformedException" "position") ∈ lw_all := lw_g (lw_at lw_m7 47 rfl) rfl
theorem q1552 : (Jvm.Cond.lays "LampLeaseOffice$MalformedException" "java/lang/Throwable" "depth" "I") ∈ lw_all := lw_g (lw_at lw_m7 48 rfl) rfl
theorem q1553 : (Jvm.Cond.superclass "LampLeaseOffice$MalformedException" "LampLeaseOffice$TextException") ∈ lw_all := lw_g (lw_at lw_m7 49 rfl) rfl
theorem q2203 : (Jvm.Cond.castable "LampLeaseOffice$MalformedException" "LampLeaseOffice$TextException") ∈ lw_tbl := lw_at lw_m9 219 rfl
theorem q2222 : (Jvm.Cond.castable "LampLeaseOffice$MalformedException" "java/lang/Object") ∈ lw_tbl := lw_at lw_m9 238 rfl
theorem q101 : (Jvm.Cond.initialized "java/lang/Integer") ∈ lw_all := lw_g (lw_at lw_m1 37 rfl) rfl
theorem q761 : (Jvm.Cond.static ({ cls := "java/lang/Integer", name := "stringSize", desc := "(I)I" } : Jvm.MethodName)) ∈ lw_all := lw_g (lw_at lw_m3 217 rfl) rfl
theorem q762 : (Jvm.Cond.code ({ cls := "java/lang/Integer", name := "stringSize", desc := "(I)I" } : Jvm.MethodName) prog_25_method_13_code (4 : Nat) (Option.some Jvm.ClassFile.FieldType.int)) ∈ lw_all := lw_g (lw_at lw_m3 218 rfl) rfl
theorem q764 : (Jvm.Cond.static ({ cls := "java/lang/Integer", name := "getChars", desc := "(II[B)I" } : Jvm.MethodName)) ∈ lw_all := lw_g (lw_at lw_m3 220 rfl) rfl
theorem q765 : (Jvm.Cond.code ({ cls := "java/lang/Integer", name := "getChars", desc := "(II[B)I" } : Jvm.MethodName) prog_25_method_12_code (7 : Nat) (Option.some Jvm.ClassFile.FieldType.int)) ∈ lw_all := lw_g (lw_at lw_m3 221 rfl) rfl
theorem q766 : (Jvm.Cond.fieldLink "java/lang/Integer" (83 : Nat) "java/lang/Integer" "DigitOnes" "[B") ∈ lw_all := lw_g (lw_at lw_m3 222 rfl) rfl
theorem q767 : (Jvm.Cond.laysStatic "java/lang/Integer" "DigitOnes" "[B") ∈ lw_tbl := lw_at lw_m3 223 rfl
theorem q768 : (Jvm.Cond.fieldLink "java/lang/Integer" (87 : Nat) "java/lang/Integer" "DigitTens" "[B") ∈ lw_all := lw_g (lw_at lw_m3 224 rfl) rfl
theorem q769 : (Jvm.Cond.laysStatic "java/lang/Integer" "DigitTens" "[B") ∈ lw_tbl := lw_at lw_m3 225 rfl
theorem q102 : (Jvm.Cond.initialized "LampLeaseOffice$CommandException") ∈ lw_all := lw_g (lw_at lw_m1 38 rfl) rfl
theorem q345 : (Jvm.Cond.selects "LampLeaseOffice$CommandException" ({ cls := "java/lang/Throwable", name := "fillInStackTrace", desc := "()Ljava/lang/Throwable;" } : Jvm.MethodName) ({ cls := "java/lang/Throwable", name := "fillInStackTrace", desc := "()Ljava/lang/Throwable;" } : Jvm.MethodName)) ∈ lw_all := lw_g (lw_at lw_m2 41 rfl) rfl
theorem q468 : (Jvm.Cond.selects "LampLeaseOffice$CommandException" ({ cls := "java/lang/Object", name := "getClass", desc := "()Ljava/lang/Class;" } : Jvm.MethodName) ({ cls := "java/lang/Object", name := "getClass", desc := "()Ljava/lang/Class;" } : Jvm.MethodName)) ∈ lw_all := lw_g (lw_at lw_m2 164 rfl) rfl
theorem q1639 : (Jvm.Cond.instantiable "LampLeaseOffice$CommandException" (7 : Nat)) ∈ lw_all := lw_g (lw_at lw_m7 135 rfl) rfl
theorem q1640 : (Jvm.Cond.castable "LampLeaseOffice$CommandException" "LampLeaseOffice$CommandException") ∈ lw_tbl := lw_at lw_m7 136 rfl
theorem q1641 : (Jvm.Cond.selects "LampLeaseOffice$CommandException" ({ cls := "java/lang/Throwable", name := "fillInStackTrace", desc := "(I)Ljava/lang/Throwable;" } : Jvm.MethodName) ({ cls := "java/lang/Throwable", name := "fillInStackTrace", desc := "(I)Ljava/lang/Throwable;" } : Jvm.MethodName)) ∈ lw_all := lw_g (lw_at lw_m7 137 rfl) rfl
theorem q1642 : (Jvm.Cond.lays "LampLeaseOffice$CommandException" "java/lang/Throwable" "cause" "Ljava/lang/Throwable;") ∈ lw_all := lw_g (lw_at lw_m7 138 rfl) rfl
theorem q1643 : (Jvm.Cond.lays "LampLeaseOffice$CommandException" "java/lang/Throwable" "stackTrace" "[Ljava/lang/StackTraceElement;") ∈ lw_all := lw_g (lw_at lw_m7 139 rfl) rfl
theorem q1644 : (Jvm.Cond.lays "LampLeaseOffice$CommandException" "java/lang/Throwable" "suppressedExceptions" "Ljava/util/List;") ∈ lw_all := lw_g (lw_at lw_m7 140 rfl) rfl
theorem q1645 : (Jvm.Cond.lays "LampLeaseOffice$CommandException" "java/lang/Throwable" "detailMessage" "Ljava/lang/String;") ∈ lw_all := lw_g (lw_at lw_m7 141 rfl) rfl
theorem q1646 : (Jvm.Cond.lays "LampLeaseOffice$CommandException" "java/lang/Throwable" "backtrace" "Ljava/lang/Object;") ∈ lw_all := lw_g (lw_at lw_m7 142 rfl) rfl
theorem q1648 : (Jvm.Cond.instanceMethod ({ cls := "LampLeaseOffice$CommandException", name := "<init>", desc := "(ILjava/lang/RuntimeException;)V" } : Jvm.MethodName)) ∈ lw_all := lw_g (lw_at lw_m7 144 rfl) rfl
theorem q1649 : (Jvm.Cond.code ({ cls := "LampLeaseOffice$CommandException", name := "<init>", desc := "(ILjava/lang/RuntimeException;)V" } : Jvm.MethodName) prog_2_method_1_code (3 : Nat) (Option.none : Option Jvm.ClassFile.FieldType)) ∈ lw_all := lw_g (lw_at lw_m7 145 rfl) rfl
theorem q1650 : (Jvm.Cond.methodLink "LampLeaseOffice$CommandException" (1 : Nat) ({ cls := "LampLeaseOffice$TextException", name := "<init>", desc := "(Ljava/lang/Throwable;)V" } : Jvm.MethodName)) ∈ lw_all := lw_g (lw_at lw_m7 146 rfl) rfl
theorem q1651 : (Jvm.Cond.fieldLink "LampLeaseOffice$CommandException" (7 : Nat) "LampLeaseOffice$CommandException" "index" "I") ∈ lw_all := lw_g (lw_at lw_m7 147 rfl) rfl
theorem q1653 : (Jvm.Cond.laysFinal "LampLeaseOffice$CommandException" "LampLeaseOffice$CommandException" "index" "I") ∈ lw_all := lw_g (lw_at lw_m7 149 rfl) rfl
theorem q1654 : (Jvm.Cond.soleField "LampLeaseOffice$CommandException" "index") ∈ lw_all := lw_g (lw_at lw_m7 150 rfl) rfl
theorem q1655 : (Jvm.Cond.lays "LampLeaseOffice$CommandException" "java/lang/Throwable" "depth" "I") ∈ lw_all := lw_g (lw_at lw_m7 151 rfl) rfl
theorem q1656 : (Jvm.Cond.superclass "LampLeaseOffice$CommandException" "LampLeaseOffice$TextException") ∈ lw_all := lw_g (lw_at lw_m7 152 rfl) rfl
theorem q1658 : (Jvm.Cond.instanceMethod ({ cls := "LampLeaseOffice$CommandException", name := "reason", desc := "()C" } : Jvm.MethodName)) ∈ lw_all := lw_g (lw_at lw_m7 154 rfl) rfl
theorem q1659 : (Jvm.Cond.selects "LampLeaseOffice$CommandException" ({ cls := "LampLeaseOffice$CommandException", name := "reason", desc := "()C" } : Jvm.MethodName) ({ cls := "LampLeaseOffice$CommandException", name := "reason", desc := "()C" } : Jvm.MethodName)) ∈ lw_all := lw_g (lw_at lw_m7 155 rfl) rfl
theorem q1660 : (Jvm.Cond.code ({ cls := "LampLeaseOffice$CommandException", name := "reason", desc := "()C" } : Jvm.MethodName) prog_2_method_2_code (2 : Nat) (Option.some Jvm.ClassFile.FieldType.char)) ∈ lw_all := lw_g (lw_at lw_m7 156 rfl) rfl
theorem q1661 : (Jvm.Cond.methodLink "LampLeaseOffice$CommandException" (13 : Nat) ({ cls := "LampLeaseOffice$CommandException", name := "getCause", desc := "()Ljava/lang/Throwable;" } : Jvm.MethodName)) ∈ lw_all := lw_g (lw_at lw_m7 157 rfl) rfl
theorem q1662 : (Jvm.Cond.sameMethod "LampLeaseOffice$CommandException" "java/lang/Throwable" "getCause" "()Ljava/lang/Throwable;") ∈ lw_all := lw_g (lw_at lw_m7 158 rfl) rfl
theorem q1664 : (Jvm.Cond.selects "LampLeaseOffice$CommandException" ({ cls := "LampLeaseOffice$CommandException", name := "getCause", desc := "()Ljava/lang/Throwable;" } : Jvm.MethodName) ({ cls := "java/lang/Throwable", name := "getCause", desc := "()Ljava/lang/Throwable;" } : Jvm.MethodName)) ∈ lw_all := lw_g (lw_at lw_m7 160 rfl) rfl
theorem q1667 : (Jvm.Cond.classLink "LampLeaseOffice$CommandException" (17 : Nat) "java/lang/IndexOutOfBoundsException") ∈ lw_all := lw_g (lw_at lw_m7 163 rfl) rfl
theorem q1668 : (Jvm.Cond.classLink "LampLeaseOffice$CommandException" (19 : Nat) "java/lang/IllegalArgumentException") ∈ lw_all := lw_g (lw_at lw_m7 164 rfl) rfl
theorem q1669 : (Jvm.Cond.classLink "LampLeaseOffice$CommandException" (21 : Nat) "java/lang/IllegalStateException") ∈ lw_all := lw_g (lw_at lw_m7 165 rfl) rfl
theorem q1670 : (Jvm.Cond.classLink "LampLeaseOffice$CommandException" (23 : Nat) "java/util/NoSuchElementException") ∈ lw_all := lw_g (lw_at lw_m7 166 rfl) rfl
theorem q2202 : (Jvm.Cond.castable "LampLeaseOffice$CommandException" "LampLeaseOffice$TextException") ∈ lw_tbl := lw_at lw_m9 218 rfl
theorem q2225 : (Jvm.Cond.castable "LampLeaseOffice$CommandException" "java/lang/Object") ∈ lw_tbl := lw_at lw_m10 1 rfl
theorem q103 : (Jvm.Cond.initialized "java/lang/StringIndexOutOfBoundsException") ∈ lw_all := lw_g (lw_at lw_m1 39 rfl) rfl
theorem q353 : (Jvm.Cond.selects "java/lang/StringIndexOutOfBoundsException" ({ cls := "java/lang/Throwable", name := "fillInStackTrace", desc := "()Ljava/lang/Throwable;" } : Jvm.MethodName) ({ cls := "java/lang/Throwable", name := "fillInStackTrace", desc := "()Ljava/lang/Throwable;" } : Jvm.MethodName)) ∈ lw_all := lw_g (lw_at lw_m2 49 rfl) rfl
theorem q484 : (Jvm.Cond.selects "java/lang/StringIndexOutOfBoundsException" ({ cls := "java/lang/Object", name := "getClass", desc := "()Ljava/lang/Class;" } : Jvm.MethodName) ({ cls := "java/lang/Object", name := "getClass", desc := "()Ljava/lang/Class;" } : Jvm.MethodName)) ∈ lw_all := lw_g (lw_at lw_m2 180 rfl) rfl
theorem q641 : (Jvm.Cond.instantiable "java/lang/StringIndexOutOfBoundsException" (6 : Nat)) ∈ lw_all := lw_g (lw_at lw_m3 97 rfl) rfl
theorem q643 : (Jvm.Cond.instanceMethod ({ cls := "java/lang/StringIndexOutOfBoundsException", name := "<init>", desc := "(I)V" } : Jvm.MethodName)) ∈ lw_all := lw_g (lw_at lw_m3 99 rfl) rfl
theorem q644 : (Jvm.Cond.code ({ cls := "java/lang/StringIndexOutOfBoundsException", name := "<init>", desc := "(I)V" } : Jvm.MethodName) prog_32_method_3_code (2 : Nat) (Option.none : Option Jvm.ClassFile.FieldType)) ∈ lw_all := lw_g (lw_at lw_m3 100 rfl) rfl
theorem q645 : (Jvm.Cond.classLink "java/lang/StringIndexOutOfBoundsException" (10 : Nat) "java/lang/StringBuilder") ∈ lw_all := lw_g (lw_at lw_m3 101 rfl) rfl
theorem q646 : (Jvm.Cond.methodLink "java/lang/StringIndexOutOfBoundsException" (12 : Nat) ({ cls := "java/lang/StringBuilder", name := "<init>", desc := "()V" } : Jvm.MethodName)) ∈ lw_all := lw_g (lw_at lw_m3 102 rfl) rfl
theorem q647 : (Jvm.Cond.stringRef "java/lang/StringIndexOutOfBoundsException" (13 : Nat) "String index out of range: ") ∈ lw_tbl := lw_at lw_m3 103 rfl
theorem q648 : (Jvm.Cond.methodLink "java/lang/StringIndexOutOfBoundsException" (15 : Nat) ({ cls := "java/lang/StringBuilder", name := "append", desc := "(Ljava/lang/String;)Ljava/lang/StringBuilder;" } : Jvm.MethodName)) ∈ lw_all := lw_g (lw_at lw_m3 104 rfl) rfl
theorem q753 : (Jvm.Cond.methodLink "java/lang/StringIndexOutOfBoundsException" (19 : Nat) ({ cls := "java/lang/StringBuilder", name := "append", desc := "(I)Ljava/lang/StringBuilder;" } : Jvm.MethodName)) ∈ lw_all := lw_g (lw_at lw_m3 209 rfl) rfl
theorem q778 : (Jvm.Cond.methodLink "java/lang/StringIndexOutOfBoundsException" (22 : Nat) ({ cls := "java/lang/StringBuilder", name := "toString", desc := "()Ljava/lang/String;" } : Jvm.MethodName)) ∈ lw_all := lw_g (lw_at lw_m3 234 rfl) rfl
theorem q869 : (Jvm.Cond.methodLink "java/lang/StringIndexOutOfBoundsException" (7 : Nat) ({ cls := "java/lang/IndexOutOfBoundsException", name := "<init>", desc := "(Ljava/lang/String;)V" } : Jvm.MethodName)) ∈ lw_all := lw_g (lw_at lw_m4 85 rfl) rfl
theorem q873 : (Jvm.Cond.lays "java/lang/StringIndexOutOfBoundsException" "java/lang/Throwable" "backtrace" "Ljava/lang/Object;") ∈ lw_all := lw_g (lw_at lw_m4 89 rfl) rfl
theorem q874 : (Jvm.Cond.lays "java/lang/StringIndexOutOfBoundsException" "java/lang/Throwable" "detailMessage" "Ljava/lang/String;") ∈ lw_all := lw_g (lw_at lw_m4 90 rfl) rfl
theorem q875 : (Jvm.Cond.lays "java/lang/StringIndexOutOfBoundsException" "java/lang/Throwable" "cause" "Ljava/lang/Throwable;") ∈ lw_all := lw_g (lw_at lw_m4 91 rfl) rfl
theorem q876 : (Jvm.Cond.lays "java/lang/StringIndexOutOfBoundsException" "java/lang/Throwable" "stackTrace" "[Ljava/lang/StackTraceElement;") ∈ lw_all := lw_g (lw_at lw_m4 92 rfl) rfl
theorem q877 : (Jvm.Cond.lays "java/lang/StringIndexOutOfBoundsException" "java/lang/Throwable" "depth" "I") ∈ lw_all := lw_g (lw_at lw_m4 93 rfl) rfl
theorem q878 : (Jvm.Cond.lays "java/lang/StringIndexOutOfBoundsException" "java/lang/Throwable" "suppressedExceptions" "Ljava/util/List;") ∈ lw_all := lw_g (lw_at lw_m4 94 rfl) rfl
theorem q879 : (Jvm.Cond.superclass "java/lang/StringIndexOutOfBoundsException" "java/lang/IndexOutOfBoundsException") ∈ lw_all := lw_g (lw_at lw_m4 95 rfl) rfl
theorem q2201 : (Jvm.Cond.castable "java/lang/StringIndexOutOfBoundsException" "java/lang/IndexOutOfBoundsException") ∈ lw_tbl := lw_at lw_m9 217 rfl
theorem q2226 : (Jvm.Cond.castable "java/lang/StringIndexOutOfBoundsException" "java/lang/Object") ∈ lw_tbl := lw_at lw_m10 2 rfl
theorem q110 : (Jvm.Cond.instanceMethod ({ cls := "java/lang/Object", name := "<init>", desc := "()V" } : Jvm.MethodName)) ∈ lw_all := lw_g (lw_at lw_m1 46 rfl) rfl
theorem q111 : (Jvm.Cond.code ({ cls := "java/lang/Object", name := "<init>", desc := "()V" } : Jvm.MethodName) object_method_1_code (1 : Nat) (Option.none : Option Jvm.ClassFile.FieldType)) ∈ lw_all := lw_g (lw_at lw_m1 47 rfl) rfl
theorem q465 : (Jvm.Cond.instanceMethod ({ cls := "java/lang/Object", name := "getClass", desc := "()Ljava/lang/Class;" } : Jvm.MethodName)) ∈ lw_all := lw_g (lw_at lw_m2 161 rfl) rfl
theorem q466 : (Jvm.Cond.sameMethod "java/lang/Object" "java/lang/Object" "getClass" "()Ljava/lang/Class;") ∈ lw_all := lw_g (lw_at lw_m2 162 rfl) rfl
theorem q490 : (Jvm.Cond.native ({ cls := "java/lang/Object", name := "getClass", desc := "()Ljava/lang/Class;" } : Jvm.MethodName)) ∈ lw_all := lw_g (lw_at lw_m2 186 rfl) rfl
theorem q674 : (Jvm.Cond.native ({ cls := "java/lang/Object", name := "clone", desc := "()Ljava/lang/Object;" } : Jvm.MethodName)) ∈ lw_all := lw_g (lw_at lw_m3 130 rfl) rfl
theorem q675 : (Jvm.Cond.instanceMethod ({ cls := "java/lang/Object", name := "clone", desc := "()Ljava/lang/Object;" } : Jvm.MethodName)) ∈ lw_all := lw_g (lw_at lw_m3 131 rfl) rfl
theorem q2199 : (Jvm.Cond.initialized "java/lang/Object") ∈ lw_all := lw_g (lw_at lw_m9 215 rfl) rfl
theorem q2230 : (Jvm.Cond.declares ({ cls := "java/lang/Object", name := "getClass", desc := "()Ljava/lang/Class;" } : Jvm.MethodName)) ∈ lw_tbl := lw_at lw_m10 6 rfl
theorem q485 : (Jvm.Cond.selects "java/lang/System$2" ({ cls := "java/lang/Object", name := "getClass", desc := "()Ljava/lang/Class;" } : Jvm.MethodName) ({ cls := "java/lang/Object", name := "getClass", desc := "()Ljava/lang/Class;" } : Jvm.MethodName)) ∈ lw_all := lw_g (lw_at lw_m2 181 rfl) rfl
theorem q1581 : (Jvm.Cond.castable "java/lang/System$2" "jdk/internal/access/JavaLangAccess") ∈ lw_tbl := lw_at lw_m7 77 rfl
theorem q1582 : (Jvm.Cond.selects "java/lang/System$2" ({ cls := "jdk/internal/access/JavaLangAccess", name := "getUTF16Char", desc := "([BI)C" } : Jvm.MethodName) ({ cls := "java/lang/System$2", name := "getUTF16Char", desc := "([BI)C" } : Jvm.MethodName)) ∈ lw_all := lw_g (lw_at lw_m7 78 rfl) rfl
theorem q1583 : (Jvm.Cond.unhidden "java/lang/System$2" "getUTF16Char" "([BI)C") ∈ lw_tbl := lw_at lw_m7 79 rfl
theorem q1584 : (Jvm.Cond.instanceMethod ({ cls := "java/lang/System$2", name := "getUTF16Char", desc := "([BI)C" } : Jvm.MethodName)) ∈ lw_all := lw_g (lw_at lw_m7 80 rfl) rfl
theorem q1585 : (Jvm.Cond.publicMethod ({ cls := "java/lang/System$2", name := "getUTF16Char", desc := "([BI)C" } : Jvm.MethodName)) ∈ lw_tbl := lw_at lw_m7 81 rfl
theorem q1586 : (Jvm.Cond.code ({ cls := "java/lang/System$2", name := "getUTF16Char", desc := "([BI)C" } : Jvm.MethodName) prog_36_method_45_code (3 : Nat) (Option.some Jvm.ClassFile.FieldType.char)) ∈ lw_all := lw_g (lw_at lw_m7 82 rfl) rfl
theorem q1587 : (Jvm.Cond.methodLink "java/lang/System$2" (185 : Nat) ({ cls := "java/lang/StringUTF16", name := "getChar", desc := "([BI)C" } : Jvm.MethodName)) ∈ lw_all := lw_g (lw_at lw_m7 83 rfl) rfl
theorem q2223 : (Jvm.Cond.castable "java/lang/System$2" "java/lang/Object") ∈ lw_tbl := lw_at lw_m9 239 rfl
theorem q210 : (Jvm.Cond.arrayClass Jvm.ClassFile.FieldType.char) ∈ lw_all := lw_g (lw_at lw_m1 146 rfl) rfl
theorem q211 : (Jvm.Cond.arrayClass Jvm.ClassFile.FieldType.byte) ∈ lw_all := lw_g (lw_at lw_m1 147 rfl) rfl
theorem q495 : (Jvm.Cond.arrayOver (Jvm.ClassFile.FieldType.object "java/lang/Object")) ∈ lw_tbl := lw_at lw_m2 191 rfl
theorem q567 : (Jvm.Cond.arrayClass Jvm.ClassFile.FieldType.int) ∈ lw_all := lw_g (lw_at lw_m3 23 rfl) rfl
theorem q2184 : (Jvm.Cond.arrayClass Jvm.ClassFile.FieldType.long) ∈ lw_all := lw_g (lw_at lw_m9 200 rfl) rfl
theorem q2185 : (Jvm.Cond.arrayClass Jvm.ClassFile.FieldType.double) ∈ lw_all := lw_g (lw_at lw_m9 201 rfl) rfl
theorem q2237 : (Jvm.Cond.arrayClass Jvm.ClassFile.FieldType.short) ∈ lw_all := lw_g (lw_at lw_m10 13 rfl) rfl
theorem q84 : (Jvm.Cond.initialized "java/lang/System") ∈ lw_all := lw_g (lw_at lw_m1 20 rfl) rfl
theorem q501 : (Jvm.Cond.static ({ cls := "java/lang/System", name := "arraycopy", desc := "(Ljava/lang/Object;ILjava/lang/Object;II)V" } : Jvm.MethodName)) ∈ lw_all := lw_g (lw_at lw_m2 197 rfl) rfl
theorem q502 : (Jvm.Cond.native ({ cls := "java/lang/System", name := "arraycopy", desc := "(Ljava/lang/Object;ILjava/lang/Object;II)V" } : Jvm.MethodName)) ∈ lw_all := lw_g (lw_at lw_m2 198 rfl) rfl
theorem q100 : (Jvm.Cond.initialized "java/lang/Number") ∈ lw_all := lw_g (lw_at lw_m1 36 rfl) rfl
theorem q291 : (Jvm.Cond.interfaceMethod "java/util/Iterator" "java/util/Iterator" "hasNext" "()Z") ∈ lw_tbl := lw_at lw_m1 227 rfl
theorem q292 : (Jvm.Cond.declares ({ cls := "java/util/Iterator", name := "hasNext", desc := "()Z" } : Jvm.MethodName)) ∈ lw_tbl := lw_at lw_m1 228 rfl
theorem q301 : (Jvm.Cond.interfaceMethod "java/util/Iterator" "java/util/Iterator" "next" "()Ljava/lang/Object;") ∈ lw_tbl := lw_at lw_m1 237 rfl
theorem q302 : (Jvm.Cond.declares ({ cls := "java/util/Iterator", name := "next", desc := "()Ljava/lang/Object;" } : Jvm.MethodName)) ∈ lw_tbl := lw_at lw_m1 238 rfl
theorem q673 : (Jvm.Cond.sameMethod "[B" "java/lang/Object" "clone" "()Ljava/lang/Object;") ∈ lw_all := lw_g (lw_at lw_m3 129 rfl) rfl
theorem q676 : (Jvm.Cond.selects "[B" ({ cls := "[B", name := "clone", desc := "()Ljava/lang/Object;" } : Jvm.MethodName) ({ cls := "java/lang/Object", name := "clone", desc := "()Ljava/lang/Object;" } : Jvm.MethodName)) ∈ lw_all := lw_g (lw_at lw_m3 132 rfl) rfl
theorem q677 : (Jvm.Cond.castable "[B" "java/lang/Cloneable") ∈ lw_tbl := lw_at lw_m3 133 rfl
theorem q2232 : (Jvm.Cond.castable "[B" "java/lang/Object") ∈ lw_tbl := lw_at lw_m10 8 rfl
theorem q1579 : (Jvm.Cond.interfaceMethod "jdk/internal/access/JavaLangAccess" "jdk/internal/access/JavaLangAccess" "getUTF16Char" "([BI)C") ∈ lw_tbl := lw_at lw_m7 75 rfl
theorem q1580 : (Jvm.Cond.declares ({ cls := "jdk/internal/access/JavaLangAccess", name := "getUTF16Char", desc := "([BI)C" } : Jvm.MethodName)) ∈ lw_tbl := lw_at lw_m7 76 rfl
theorem q2228 : (Jvm.Cond.sameMethod "[Ljava/lang/Object;" "java/lang/Object" "getClass" "()Ljava/lang/Class;") ∈ lw_all := lw_g (lw_at lw_m10 4 rfl) rfl
theorem q2229 : (Jvm.Cond.selects "[Ljava/lang/Object;" ({ cls := "java/lang/Object", name := "getClass", desc := "()Ljava/lang/Class;" } : Jvm.MethodName) ({ cls := "java/lang/Object", name := "getClass", desc := "()Ljava/lang/Class;" } : Jvm.MethodName)) ∈ lw_all := lw_g (lw_at lw_m10 5 rfl) rfl
theorem q2233 : (Jvm.Cond.castable "[Ljava/lang/Object;" "java/lang/Object") ∈ lw_tbl := lw_at lw_m10 9 rfl
theorem q2231 : (Jvm.Cond.castable "[C" "java/lang/Object") ∈ lw_tbl := lw_at lw_m10 7 rfl
theorem q2234 : (Jvm.Cond.castable "[I" "java/lang/Object") ∈ lw_tbl := lw_at lw_m10 10 rfl
theorem q2235 : (Jvm.Cond.castable "[J" "java/lang/Object") ∈ lw_tbl := lw_at lw_m10 11 rfl
theorem q2236 : (Jvm.Cond.castable "[D" "java/lang/Object") ∈ lw_tbl := lw_at lw_m10 12 rfl
theorem in_X1 : ∀ w ∈ wsX10, w ∈ lw_all := lw_in wsX10 [223, 225, 227, 229, 231, 233, 235, 237, 239] (by decide +kernel) (by decide +kernel)
theorem in_X2 : ∀ w ∈ wsX20, w ∈ lw_all := lw_in wsX20 [161, 163, 165, 167, 169, 171, 173] (by decide +kernel) (by decide +kernel)
theorem in_J2 : ∀ w ∈ wsJ20, w ∈ lw_all := lw_in wsJ20 [144, 140, 142] (by decide +kernel) (by decide +kernel)
theorem in_J4 : ∀ w ∈ wsJ40, w ∈ lw_all := lw_in wsJ40 [201, 203, 205, 207] (by decide +kernel) (by decide +kernel)
theorem in_J5 : ∀ w ∈ wsJ50, w ∈ lw_all := lw_in wsJ50 [860, 862, 864, 866] (by decide +kernel) (by decide +kernel)
theorem in_X3 : ∀ w ∈ wsX30, w ∈ lw_all := lw_in wsX30 [1757, 1759, 1761, 1763, 1765, 1767, 1769, 1771, 1773, 1775, 1777, 1779, 1781, 1783, 1785, 1787, 1789, 1791, 1793] (by decide +kernel) (by decide +kernel)
theorem in_J7 : ∀ w ∈ wsJ70, w ∈ lw_all := lw_in wsJ70 [280, 282, 284, 286] (by decide +kernel) (by decide +kernel)
theorem in_J8 : ∀ w ∈ wsJ80, w ∈ lw_all := lw_in wsJ80 [324, 326, 328, 330, 332] (by decide +kernel) (by decide +kernel)
theorem in_J11 : ∀ w ∈ wsJ110, w ∈ lw_all := lw_in wsJ110 [323, 325, 327, 329, 331, 380] (by decide +kernel) (by decide +kernel)
theorem in_X4 : ∀ w ∈ wsX40, w ∈ lw_all := lw_in wsX40 [428, 430, 432] (by decide +kernel) (by decide +kernel)
theorem in_X5 : ∀ w ∈ wsX50, w ∈ lw_all := lw_in wsX50 [529, 531, 533, 535, 537] (by decide +kernel) (by decide +kernel)
theorem in_J15 : ∀ w ∈ wsJ150, w ∈ lw_all := lw_in wsJ150 [976, 977, 978, 979, 980, 985] (by decide +kernel) (by decide +kernel)
theorem in_J18 : ∀ w ∈ wsJ180, w ∈ lw_all := lw_in wsJ180 [818, 819, 820, 821, 822, 841] (by decide +kernel) (by decide +kernel)
theorem in_J19 : ∀ w ∈ wsJ190, w ∈ lw_all := lw_in wsJ190 [1064, 1065, 1066, 1067, 1068, 1073] (by decide +kernel) (by decide +kernel)
theorem in_J20 : ∀ w ∈ wsJ200, w ∈ lw_all := lw_in wsJ200 [898, 899, 900, 901, 902, 913] (by decide +kernel) (by decide +kernel)
theorem in_X6 : ∀ w ∈ wsX60, w ∈ lw_all := lw_in wsX60 [1092, 1093, 1094, 1095, 1096, 1106] (by decide +kernel) (by decide +kernel)
theorem in_J21 : ∀ w ∈ wsJ210, w ∈ lw_all := lw_in wsJ210 [1112, 1113, 1114, 1115, 1116, 1121] (by decide +kernel) (by decide +kernel)
theorem in_X7 : ∀ w ∈ wsX70, w ∈ lw_all := lw_in wsX70 [1156, 1158] (by decide +kernel) (by decide +kernel)
theorem in_J22 : ∀ w ∈ wsJ220, w ∈ lw_all := lw_in wsJ220 [1402, 1403, 1404, 1405, 1406, 1407] (by decide +kernel) (by decide +kernel)
theorem in_X8 : ∀ w ∈ wsX80, w ∈ lw_all := lw_in wsX80 [1463, 1465, 1467, 1469, 1471] (by decide +kernel) (by decide +kernel)
theorem in_X10 : ∀ w ∈ wsX100, w ∈ lw_all := lw_in wsX100 [1531, 1532, 1533, 1534, 1535, 1552, 1550] (by decide +kernel) (by decide +kernel)
theorem in_X11 : ∀ w ∈ wsX110, w ∈ lw_all := lw_in wsX110 [1642, 1643, 1644, 1645, 1646, 1655, 1653] (by decide +kernel) (by decide +kernel)
theorem in_J25 : ∀ w ∈ wsJ250, w ∈ lw_all := lw_in wsJ250 [873, 874, 875, 876, 877, 878] (by decide +kernel) (by decide +kernel)
