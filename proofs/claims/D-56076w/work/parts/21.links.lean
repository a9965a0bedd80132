set_option maxRecDepth 100000
/-! LINKS OF METHODS: m<class>_<entry> -/
theorem mX0_7 : wdLV RX0 7 MX1_addShip 0 := ⟨rfl, lw_V q961 q962 q963 q65 q964, ⟨⟨by decide +kernel, by decide +kernel, rfl⟩, by decide⟩⟩
theorem mX0_15 : wdLV RX0 15 MX1_addLamp 1 := ⟨rfl, lw_V q1006 q1007 q1008 q65 q1009, ⟨⟨by decide +kernel, by decide +kernel, rfl⟩, by decide⟩⟩
theorem mX0_21 : wdLV RX0 21 MX1_addOil 1 := ⟨rfl, lw_V q1029 q1030 q1031 q65 q1032, ⟨⟨by decide +kernel, by decide +kernel, rfl⟩, by decide⟩⟩
theorem mX0_24 : wdLV RX0 24 MX1_lease 3 := ⟨rfl, lw_V q1044 q1045 q1046 q65 q1047, ⟨⟨by decide +kernel, by decide +kernel, rfl⟩, by decide⟩⟩
theorem mX0_32 : wdLV RX0 32 MX1_requestRenewal 2 := ⟨rfl, lw_V q1127 q1128 q1129 q65 q1130, ⟨⟨by decide +kernel, by decide +kernel, rfl⟩, by decide⟩⟩
theorem mX0_38 : wdLV RX0 38 MX1_giveUp 1 := ⟨rfl, lw_V q1164 q1165 q1166 q65 q1167, ⟨⟨by decide +kernel, by decide +kernel, rfl⟩, by decide⟩⟩
theorem mX0_41 : wdLV RX0 41 MX1_passHours 1 := ⟨rfl, lw_V q1180 q1181 q1182 q65 q1183, ⟨⟨by decide +kernel, by decide +kernel, rfl⟩, by decide⟩⟩
theorem mX0_44 : wdLV RX0 44 MX1_coins 1 := ⟨rfl, lw_V q1225 q1226 q1227 q65 q1228, ⟨⟨by decide +kernel, by decide +kernel, rfl⟩, by decide⟩⟩
theorem mX0_47 : wdLV RX0 47 MX1_finesPaid 1 := ⟨rfl, lw_V q1233 q1234 q1235 q65 q1236, ⟨⟨by decide +kernel, by decide +kernel, rfl⟩, by decide⟩⟩
theorem mX0_50 : wdLV RX0 50 MX1_darkHours 1 := ⟨rfl, lw_V q1240 q1241 q1242 q65 q1243, ⟨⟨by decide +kernel, by decide +kernel, rfl⟩, by decide⟩⟩
theorem mX0_53 : wdLV RX0 53 MX1_demand 1 := ⟨rfl, lw_V q1247 q1248 q1249 q65 q1250, ⟨⟨by decide +kernel, by decide +kernel, rfl⟩, by decide⟩⟩
theorem mX0_56 : wdLV RX0 56 MX1_leasesOf 1 := ⟨rfl, lw_V q1255 q1256 q1257 q65 q1258, ⟨⟨by decide +kernel, by decide +kernel, rfl⟩, by decide⟩⟩
theorem mX0_59 : wdLV RX0 59 MX1_level 1 := ⟨rfl, lw_V q1263 q1264 q1265 q65 q1266, ⟨⟨by decide +kernel, by decide +kernel, rfl⟩, by decide⟩⟩
theorem mX0_62 : wdLV RX0 62 MX1_isLeased 1 := ⟨rfl, lw_V q1271 q1272 q1273 q65 q1274, ⟨⟨by decide +kernel, by decide +kernel, rfl⟩, by decide⟩⟩
theorem mX0_66 : wdLV RX0 66 MX1_lessee 1 := ⟨rfl, lw_V q1278 q1279 q1280 q65 q1281, ⟨⟨by decide +kernel, by decide +kernel, rfl⟩, by decide⟩⟩
theorem mX0_69 : wdLV RX0 69 MX1_endHour 1 := ⟨rfl, lw_V q1286 q1287 q1288 q65 q1289, ⟨⟨by decide +kernel, by decide +kernel, rfl⟩, by decide⟩⟩
theorem mX0_72 : wdLV RX0 72 MX1_brightHours 1 := ⟨rfl, lw_V q1293 q1294 q1295 q65 q1296, ⟨⟨by decide +kernel, by decide +kernel, rfl⟩, by decide⟩⟩
theorem mX0_75 : wdLV RX0 75 MX1_wasBright 1 := ⟨rfl, lw_V q1300 q1301 q1302 q65 q1303, ⟨⟨by decide +kernel, by decide +kernel, rfl⟩, by decide⟩⟩
theorem mX0_78 : wdLV RX0 78 MX1_hoursOfOil 0 := ⟨rfl, lw_V q1307 q1308 q1309 q65 q1310, ⟨⟨by decide +kernel, by decide +kernel, rfl⟩, by decide⟩⟩
theorem mX0_81 : wdLV RX0 81 MX1_hoursOfOilByEnds 0 := ⟨rfl, lw_V q1323 q1324 q1325 q65 q1326, ⟨⟨by decide +kernel, by decide +kernel, rfl⟩, by decide⟩⟩
theorem mX0_84 : wdLV RX0 84 MX1_share 1 := ⟨rfl, lw_V q1342 q1343 q1344 q65 q1345, ⟨⟨by decide +kernel, by decide +kernel, rfl⟩, by decide⟩⟩
theorem mX0_87 : wdLV RX0 87 MX1_shareByRank 1 := ⟨rfl, lw_V q1349 q1350 q1351 q65 q1352, ⟨⟨by decide +kernel, by decide +kernel, rfl⟩, by decide⟩⟩
theorem mX0_90 : wdLV RX0 90 MX1_requestedLamp 1 := ⟨rfl, lw_V q1356 q1357 q1358 q65 q1359, ⟨⟨by decide +kernel, by decide +kernel, rfl⟩, by decide⟩⟩
theorem mX0_93 : wdLV RX0 93 MX1_requestedHours 1 := ⟨rfl, lw_V q1368 q1369 q1370 q65 q1371, ⟨⟨by decide +kernel, by decide +kernel, rfl⟩, by decide⟩⟩
theorem mX0_96 : wdLV RX0 96 MX1_shipByFines 1 := ⟨rfl, lw_V q1375 q1376 q1377 q65 q1378, ⟨⟨by decide +kernel, by decide +kernel, rfl⟩, by decide⟩⟩
theorem mX0_99 : wdLV RX0 99 MX1_lampByEnd 1 := ⟨rfl, lw_V q1386 q1387 q1388 q65 q1389, ⟨⟨by decide +kernel, by decide +kernel, rfl⟩, by decide⟩⟩
theorem mX0_102 : wdLV RX0 102 MX1_meanCoins 0 := ⟨rfl, lw_V q1411 q1412 q1413 q65 q1414, ⟨⟨by decide +kernel, by decide +kernel, rfl⟩, by decide⟩⟩
theorem mX0_108 : wdLV RX0 108 MX1_leasedShare 0 := ⟨rfl, lw_V q1426 q1427 q1428 q65 q1429, ⟨⟨by decide +kernel, by decide +kernel, rfl⟩, by decide⟩⟩
theorem mX0_112 : wdLV RX0 112 MX1_feed 1 := ⟨rfl, lw_V q1433 q1434 q1435 q65 q1436, ⟨⟨by decide +kernel, by decide +kernel, rfl⟩, by decide⟩⟩
theorem mX0_116 : wdLVH RX0 116 MX1_runCommands 0 := ⟨⟨_, _, rfl⟩, lw_VW q1441 q1442 q1443 q65 q1444, ⟨⟨by decide +kernel, by decide +kernel, rfl⟩, by decide⟩⟩
theorem mX0_119 : wdLV RX0 119 MX1_errorPosition 0 := ⟨rfl, lw_V q1677 q1678 q1679 q65 q1680, ⟨⟨by decide +kernel, by decide +kernel, rfl⟩, by decide⟩⟩
theorem mX0_122 : wdLV RX0 122 MX1_failedCommand 0 := ⟨rfl, lw_V q1684 q1685 q1686 q65 q1687, ⟨⟨by decide +kernel, by decide +kernel, rfl⟩, by decide⟩⟩
theorem mX0_125 : wdLV RX0 125 MX1_failureReason 0 := ⟨rfl, lw_V q1691 q1692 q1693 q65 q1694, ⟨⟨by decide +kernel, by decide +kernel, rfl⟩, by decide⟩⟩
theorem mX0_129 : wdLV RX0 129 MX1_outputChar 1 := ⟨rfl, lw_V q1698 q1699 q1700 q65 q1701, ⟨⟨by decide +kernel, by decide +kernel, rfl⟩, by decide⟩⟩
theorem mX0_133 : wdLV RX0 133 MX1_undo 0 := ⟨rfl, lw_V q1716 q1717 q1718 q65 q1719, ⟨⟨by decide +kernel, by decide +kernel, rfl⟩, by decide⟩⟩
theorem mX0_136 : wdLV RX0 136 MX1_restore 0 := ⟨rfl, lw_V q1727 q1728 q1729 q65 q1730, ⟨⟨by decide +kernel, by decide +kernel, rfl⟩, by decide⟩⟩
theorem mX1_9 : wdLIN RX1 9 MX2_init 0 := ⟨rfl, rfl, rfl, ⟨_, nq114⟩, q115, q66, lw_meth q116, ⟨⟨by decide +kernel, by decide +kernel, rfl⟩, by decide⟩⟩
theorem mX1_18 : wdLI RX1 18 MJ2_init 0 := ⟨rfl, rfl, rfl, q177, q121, q69, lw_meth q122, ⟨⟨by decide +kernel, by decide +kernel, rfl⟩, by decide⟩⟩
theorem mX1_36 : wdLI RX1 36 MJ4_init 0 := ⟨rfl, rfl, rfl, q180, q181, q71, lw_meth q182, ⟨⟨by decide +kernel, by decide +kernel, rfl⟩, by decide⟩⟩
theorem mX1_59 : wdLV RX1 59 MJ2_size 0 := ⟨rfl, lw_V q250 q251 q252 q69 q253, ⟨⟨by decide +kernel, by decide +kernel, rfl⟩, by decide⟩⟩
theorem mX1_162 : wdLV RX1 162 MX2_leased 0 := ⟨rfl, lw_V q262 q263 q264 q66 q265, ⟨⟨by decide +kernel, by decide +kernel, rfl⟩, by decide⟩⟩
theorem mX1_168 : wdLV RX1 168 MX2_consumption 0 := ⟨rfl, lw_V q397 q398 q399 q66 q400, ⟨⟨by decide +kernel, by decide +kernel, rfl⟩, by decide⟩⟩
theorem mX1_71 : wdLV RX1 71 MX2_copy 0 := ⟨rfl, lw_V q405 q406 q407 q66 q408, ⟨⟨by decide +kernel, by decide +kernel, rfl⟩, by decide⟩⟩
theorem mX1_184 : wdLVN RX1 184 MX2_burn 0 := ⟨⟨rfl, ⟨_, nq541⟩, q66, lw_meth q544, ⟨⟨by decide +kernel, by decide +kernel, rfl⟩, by decide⟩⟩, q543, (lw_g (lw_ms _ (List.mem_of_getElem? (i := 4) rfl)) rfl)⟩
theorem mX1_187 : wdLV RX1 187 MX2_mostBright 0 := ⟨rfl, lw_V q554 q555 q556 q66 q557, ⟨⟨by decide +kernel, by decide +kernel, rfl⟩, by decide⟩⟩
theorem mX1_190 : wdLV RX1 190 MX2_mostBrightBySums 0 := ⟨rfl, lw_V q562 q563 q564 q66 q565, ⟨⟨by decide +kernel, by decide +kernel, rfl⟩, by decide⟩⟩
theorem mX1_193 : wdLV RX1 193 MX2_shares 0 := ⟨rfl, lw_V q584 q585 q586 q66 q587, ⟨⟨by decide +kernel, by decide +kernel, rfl⟩, by decide⟩⟩
theorem mX1_207 : wdLV RX1 207 MJ2_get 1 := ⟨rfl, lw_V q602 q603 q604 q69 q605, ⟨⟨by decide +kernel, by decide +kernel, rfl⟩, by decide⟩⟩
theorem mX1_197 : wdLV RX1 197 MX2_shareByRank 1 := ⟨rfl, lw_V q617 q618 q619 q66 q620, ⟨⟨by decide +kernel, by decide +kernel, rfl⟩, by decide⟩⟩
theorem mX1_238 : wdLV RX1 238 MJ2_iterator 0 := ⟨rfl, lw_V q621 q267 q268 q69 q269, ⟨⟨by decide +kernel, by decide +kernel, rfl⟩, by decide⟩⟩
theorem mX1_242 : wdLF RX1 RJ7 242 ({ cls := "java/util/Iterator", name := "hasNext", desc := "()Z" } : Jvm.MethodName) MJ7_hasNext 0 := ⟨rfl, lw_app (List.forall_mem_cons.mpr ⟨q623, List.forall_mem_cons.mpr ⟨q294, List.forall_mem_cons.mpr ⟨q296, List.forall_mem_cons.mpr ⟨q75, fun _ h => absurd h List.not_mem_nil⟩⟩⟩⟩) (lw_meth q298), List.mem_of_getElem? (i := 0) rfl, ⟨by decide +kernel, by decide +kernel, rfl⟩, by decide⟩
theorem mX1_247 : wdLF RX1 RJ7 247 ({ cls := "java/util/Iterator", name := "next", desc := "()Ljava/lang/Object;" } : Jvm.MethodName) MJ7_next 0 := ⟨rfl, lw_app (List.forall_mem_cons.mpr ⟨q625, List.forall_mem_cons.mpr ⟨q303, List.forall_mem_cons.mpr ⟨q305, List.forall_mem_cons.mpr ⟨q75, fun _ h => absurd h List.not_mem_nil⟩⟩⟩⟩) (lw_meth q307), List.mem_of_getElem? (i := 1) rfl, ⟨by decide +kernel, by decide +kernel, rfl⟩, by decide⟩
theorem mX1_142 : wdLV RX1 142 MX5_isLeased 0 := ⟨rfl, lw_V q628 q386 q387 q85 q388, ⟨⟨by decide +kernel, by decide +kernel, rfl⟩, by decide⟩⟩
theorem mX1_292 : wdLV RX1 292 MJ4_setLength 1 := ⟨rfl, lw_V q633 q634 q635 q71 q636, ⟨⟨by decide +kernel, by decide +kernel, rfl⟩, by decide⟩⟩
theorem mX1_299 : wdLV RX1 299 MJ4_append 1 := ⟨rfl, lw_V q921 q649 q650 q71 q651, ⟨⟨by decide +kernel, by decide +kernel, rfl⟩, by decide⟩⟩
theorem mX1_303 : wdLV RX1 303 MJ4_append_2 1 := ⟨rfl, lw_V q922 q754 q755 q71 q756, ⟨⟨by decide +kernel, by decide +kernel, rfl⟩, by decide⟩⟩
theorem mX1_306 : wdLV RX1 306 MJ4_append_3 1 := ⟨rfl, lw_V q923 q924 q925 q71 q926, ⟨⟨by decide +kernel, by decide +kernel, rfl⟩, by decide⟩⟩
theorem mX1_309 : wdLV RX1 309 MX2_isRequested 1 := ⟨rfl, lw_V q943 q944 q945 q66 q946, ⟨⟨by decide +kernel, by decide +kernel, rfl⟩, by decide⟩⟩
theorem mX1_315 : wdLV RX1 315 MJ4_length 0 := ⟨rfl, lw_V q948 q800 q2197 q71 q801, ⟨⟨by decide +kernel, by decide +kernel, rfl⟩, by decide⟩⟩
theorem mX1_75 : wdLV RX1 75 MX2_addShip 0 := ⟨rfl, lw_V q965 q966 q967 q66 q968, ⟨⟨by decide +kernel, by decide +kernel, rfl⟩, by decide⟩⟩
theorem mX1_78 : wdLV RX1 78 MX1_record 2 := ⟨rfl, lw_V q988 q990 (lw_g (lw_ms _ (List.mem_of_getElem? (i := 6) rfl)) rfl) q65 q991, ⟨⟨by decide +kernel, by decide +kernel, rfl⟩, by decide⟩⟩
theorem mX1_63 : wdLV RX1 63 MJ2_remove 1 := ⟨rfl, lw_V q992 q993 q994 q69 q995, ⟨⟨by decide +kernel, by decide +kernel, rfl⟩, by decide⟩⟩
theorem mX1_67 : wdLV RX1 67 MJ2_add 1 := ⟨rfl, lw_V q1001 q436 q437 q69 q438, ⟨⟨by decide +kernel, by decide +kernel, rfl⟩, by decide⟩⟩
theorem mX1_82 : wdLV RX1 82 MX2_addLamp 1 := ⟨rfl, lw_V q1010 q1011 q1012 q66 q1013, ⟨⟨by decide +kernel, by decide +kernel, rfl⟩, by decide⟩⟩
theorem mX1_86 : wdLV RX1 86 MX2_addOil 1 := ⟨rfl, lw_V q1033 q1034 q1035 q66 q1036, ⟨⟨by decide +kernel, by decide +kernel, rfl⟩, by decide⟩⟩
theorem mX1_89 : wdLVH RX1 89 MX2_lease 3 := ⟨⟨_, _, rfl⟩, lw_VW q1048 q1049 q1050 q66 q1051, ⟨⟨by decide +kernel, by decide +kernel, rfl⟩, by decide⟩⟩
theorem mX1_93 : wdLV RX1 93 MX2_request 2 := ⟨rfl, lw_V q1131 q1132 q1133 q66 q1134, ⟨⟨by decide +kernel, by decide +kernel, rfl⟩, by decide⟩⟩
theorem mX1_97 : wdLV RX1 97 MX2_giveUp 1 := ⟨rfl, lw_V q1168 q1169 q1170 q66 q1171, ⟨⟨by decide +kernel, by decide +kernel, rfl⟩, by decide⟩⟩
theorem mX1_100 : wdLV RX1 100 MX2_passHours 1 := ⟨rfl, lw_V q1184 q1185 q1186 q66 q1187, ⟨⟨by decide +kernel, by decide +kernel, rfl⟩, by decide⟩⟩
theorem mX1_109 : wdLV RX1 109 MX2_ship 1 := ⟨rfl, lw_V q1229 q1054 q1055 q66 q1056, ⟨⟨by decide +kernel, by decide +kernel, rfl⟩, by decide⟩⟩
theorem mX1_124 : wdLV RX1 124 MX2_demand 1 := ⟨rfl, lw_V q1251 q594 q595 q66 q596, ⟨⟨by decide +kernel, by decide +kernel, rfl⟩, by decide⟩⟩
theorem mX1_127 : wdLV RX1 127 MX2_leasesOf 1 := ⟨rfl, lw_V q1259 q1206 q1207 q66 q1208, ⟨⟨by decide +kernel, by decide +kernel, rfl⟩, by decide⟩⟩
theorem mX1_133 : wdLV RX1 133 MX2_lamp 1 := ⟨rfl, lw_V q1267 q1077 q1078 q66 q1079, ⟨⟨by decide +kernel, by decide +kernel, rfl⟩, by decide⟩⟩
theorem mX1_146 : wdLV RX1 146 MX2_leasedLamp 1 := ⟨rfl, lw_V q1282 q1136 q1137 q66 q1138, ⟨⟨by decide +kernel, by decide +kernel, rfl⟩, by decide⟩⟩
theorem mX1_175 : wdLV RX1 175 MX2_burnUntilDark 0 := ⟨rfl, lw_V q1311 q1312 q1313 q66 q1314, ⟨⟨by decide +kernel, by decide +kernel, rfl⟩, by decide⟩⟩
theorem mX1_178 : wdLS RX1 178 MX1_requireHours 1 := ⟨rfl, lw_S q1316 q1317 q65 q1318, ⟨⟨by decide +kernel, by decide +kernel, rfl⟩, by decide⟩⟩
theorem mX1_171 : wdLS RX1 171 MX1_requireElement 1 := ⟨rfl, lw_S q1319 q1140 q65 q1141, ⟨⟨by decide +kernel, by decide +kernel, rfl⟩, by decide⟩⟩
theorem mX1_181 : wdLV RX1 181 MX2_hoursByEnds 0 := ⟨rfl, lw_V q1327 q1328 q1329 q66 q1330, ⟨⟨by decide +kernel, by decide +kernel, rfl⟩, by decide⟩⟩
theorem mX1_212 : wdLV RX1 212 MX1_request 1 := ⟨rfl, lw_V q1360 q1362 (lw_g (lw_ms _ (List.mem_of_getElem? (i := 16) rfl)) rfl) q65 q1363, ⟨⟨by decide +kernel, by decide +kernel, rfl⟩, by decide⟩⟩
theorem mX1_203 : wdLS RX1 203 MX1_isBetween 3 := ⟨rfl, lw_S q1364 q1015 q65 q1016, ⟨⟨by decide +kernel, by decide +kernel, rfl⟩, by decide⟩⟩
theorem mX1_226 : wdLV RX1 226 MX4_isAheadOf 2 := ⟨rfl, lw_V q1379 q1380 q1381 q80 q1382, ⟨⟨by decide +kernel, by decide +kernel, rfl⟩, by decide⟩⟩
theorem mX1_230 : wdLV RX1 230 MX5_endsSooner 2 := ⟨rfl, lw_V q1390 q1391 q1392 q85 q1393, ⟨⟨by decide +kernel, by decide +kernel, rfl⟩, by decide⟩⟩
theorem mX1_234 : wdLS RX1 234 MX1_requireNonZero 1 := ⟨rfl, lw_S q1415 q1416 q65 q1417, ⟨⟨by decide +kernel, by decide +kernel, rfl⟩, by decide⟩⟩
theorem mX1_254 : wdLS RX1 254 MX1_requireState 1 := ⟨rfl, lw_S q1437 q970 q65 q971, ⟨⟨by decide +kernel, by decide +kernel, rfl⟩, by decide⟩⟩
theorem mX1_284 : wdLVH RX1 284 MX1_carryOutInput 0 := ⟨⟨_, _, rfl⟩, lw_VW q1446 q1448 (lw_g (lw_ms _ (List.mem_of_getElem? (i := 17) rfl)) rfl) q65 q1449, ⟨⟨by decide +kernel, by decide +kernel, rfl⟩, by decide⟩⟩
theorem mX1_289 : wdLS RX1 289 MX1_requireArgument 1 := ⟨rfl, lw_S q1671 q1018 q65 q1019, ⟨⟨by decide +kernel, by decide +kernel, rfl⟩, by decide⟩⟩
theorem mX1_259 : wdLIN RX1 259 MX8_init 1 := ⟨rfl, rfl, rfl, ⟨_, nq1454⟩, q1455, q96, lw_meth q1456, ⟨⟨by decide +kernel, by decide +kernel, rfl⟩, by decide⟩⟩
theorem mX1_262 : wdLV RX1 262 MX8_commands 1 := ⟨rfl, lw_V q1474 q1475 q1476 q96 q1477, ⟨⟨by decide +kernel, by decide +kernel, rfl⟩, by decide⟩⟩
theorem mX1_271 : wdLV RX1 271 MX11_reason 0 := ⟨rfl, lw_V q1657 q1658 q1659 q102 q1660, ⟨⟨by decide +kernel, by decide +kernel, rfl⟩, by decide⟩⟩
theorem mX1_318 : wdLS RX1 318 MX1_requireIndex 1 := ⟨rfl, lw_S q1702 q1058 q65 q1059, ⟨⟨by decide +kernel, by decide +kernel, rfl⟩, by decide⟩⟩
theorem mX1_321 : wdLV RX1 321 MJ4_charAt 1 := ⟨rfl, lw_V q1703 q1704 q1705 q71 q1706, ⟨⟨by decide +kernel, by decide +kernel, rfl⟩, by decide⟩⟩
theorem mX1_325 : wdLV RX1 325 MJ2_isEmpty 0 := ⟨rfl, lw_V q1720 q1721 q1722 q69 q1723, ⟨⟨by decide +kernel, by decide +kernel, rfl⟩, by decide⟩⟩
theorem mX1_331 : wdLV RX1 331 MJ2_clear 0 := ⟨rfl, lw_V q1731 q1201 q1202 q69 q1203, ⟨⟨by decide +kernel, by decide +kernel, rfl⟩, by decide⟩⟩
theorem mX2_11 : wdLI RX2 11 MJ2_init 0 := ⟨rfl, rfl, rfl, q120, q121, q69, lw_meth q122, ⟨⟨by decide +kernel, by decide +kernel, rfl⟩, by decide⟩⟩
theorem mX2_25 : wdLV RX2 25 MJ2_iterator 0 := ⟨rfl, lw_V q266 q267 q268 q69 q269, ⟨⟨by decide +kernel, by decide +kernel, rfl⟩, by decide⟩⟩
theorem mX2_29 : wdLF RX2 RJ7 29 ({ cls := "java/util/Iterator", name := "hasNext", desc := "()Z" } : Jvm.MethodName) MJ7_hasNext 0 := ⟨rfl, lw_app (List.forall_mem_cons.mpr ⟨q290, List.forall_mem_cons.mpr ⟨q294, List.forall_mem_cons.mpr ⟨q296, List.forall_mem_cons.mpr ⟨q75, fun _ h => absurd h List.not_mem_nil⟩⟩⟩⟩) (lw_meth q298), List.mem_of_getElem? (i := 0) rfl, ⟨by decide +kernel, by decide +kernel, rfl⟩, by decide⟩
theorem mX2_35 : wdLF RX2 RJ7 35 ({ cls := "java/util/Iterator", name := "next", desc := "()Ljava/lang/Object;" } : Jvm.MethodName) MJ7_next 0 := ⟨rfl, lw_app (List.forall_mem_cons.mpr ⟨q300, List.forall_mem_cons.mpr ⟨q303, List.forall_mem_cons.mpr ⟨q305, List.forall_mem_cons.mpr ⟨q75, fun _ h => absurd h List.not_mem_nil⟩⟩⟩⟩) (lw_meth q307), List.mem_of_getElem? (i := 1) rfl, ⟨by decide +kernel, by decide +kernel, rfl⟩, by decide⟩
theorem mX2_89 : wdLV RX2 89 MX5_isLeased 0 := ⟨rfl, lw_V q385 q386 q387 q85 q388, ⟨⟨by decide +kernel, by decide +kernel, rfl⟩, by decide⟩⟩
theorem mX2_24 : wdLI RX2 24 MX2_init 0 := ⟨rfl, rfl, rfl, q410, q115, q66, lw_meth q116, ⟨⟨by decide +kernel, by decide +kernel, rfl⟩, by decide⟩⟩
theorem mX2_41 : wdLV RX2 41 MX4_copy 0 := ⟨rfl, lw_V q412 q413 q414 q80 q415, ⟨⟨by decide +kernel, by decide +kernel, rfl⟩, by decide⟩⟩
theorem mX2_45 : wdLV RX2 45 MJ2_add 1 := ⟨rfl, lw_V q435 q436 q437 q69 q438, ⟨⟨by decide +kernel, by decide +kernel, rfl⟩, by decide⟩⟩
theorem mX2_51 : wdLV RX2 51 MX5_copy 0 := ⟨rfl, lw_V q505 q506 q507 q85 q508, ⟨⟨by decide +kernel, by decide +kernel, rfl⟩, by decide⟩⟩
theorem mX2_161 : wdLV RX2 161 MX5_burn 1 := ⟨rfl, lw_V q545 q546 q547 q85 q548, ⟨⟨by decide +kernel, by decide +kernel, rfl⟩, by decide⟩⟩
theorem mX2_206 : wdLV RX2 206 MX2_demands 0 := ⟨rfl, lw_V q588 q590 (lw_g (lw_ms _ (List.mem_of_getElem? (i := 5) rfl)) rfl) q66 q591, ⟨⟨by decide +kernel, by decide +kernel, rfl⟩, by decide⟩⟩
theorem mX2_210 : wdLV RX2 210 MX2_consumption 0 := ⟨rfl, lw_V q601 q398 q399 q66 q400, ⟨⟨by decide +kernel, by decide +kernel, rfl⟩, by decide⟩⟩
theorem mX2_69 : wdLV RX2 69 MJ2_size 0 := ⟨rfl, lw_V q592 q251 q252 q69 q253, ⟨⟨by decide +kernel, by decide +kernel, rfl⟩, by decide⟩⟩
theorem mX2_203 : wdLV RX2 203 MX2_demand 1 := ⟨rfl, lw_V q593 q594 q595 q66 q596, ⟨⟨by decide +kernel, by decide +kernel, rfl⟩, by decide⟩⟩
theorem mX2_95 : wdLV RX2 95 MX5_isLeasedTo 1 := ⟨rfl, lw_V q597 q598 q599 q85 q600, ⟨⟨by decide +kernel, by decide +kernel, rfl⟩, by decide⟩⟩
theorem mX2_104 : wdLSN RX2 104 MX1_requireState 1 := ⟨⟨rfl, ⟨_, nq969⟩, q65, lw_meth q971, ⟨⟨by decide +kernel, by decide +kernel, rfl⟩, by decide⟩⟩, q970⟩
theorem mX2_107 : wdLIN RX2 107 MX4_init 0 := ⟨rfl, rfl, rfl, ⟨_, nq987⟩, q419, q80, lw_meth q420, ⟨⟨by decide +kernel, by decide +kernel, rfl⟩, by decide⟩⟩
theorem mX2_73 : wdLSN RX2 73 MX1_isBetween 3 := ⟨⟨rfl, ⟨_, nq1014⟩, q65, lw_meth q1016, ⟨⟨by decide +kernel, by decide +kernel, rfl⟩, by decide⟩⟩, q1015⟩
theorem mX2_108 : wdLSN RX2 108 MX1_requireArgument 1 := ⟨⟨rfl, ⟨_, nq1017⟩, q65, lw_meth q1019, ⟨⟨by decide +kernel, by decide +kernel, rfl⟩, by decide⟩⟩, q1018⟩
theorem mX2_111 : wdLI RX2 111 MX5_init 1 := ⟨rfl, rfl, rfl, q1025, q512, q85, lw_meth q513, ⟨⟨by decide +kernel, by decide +kernel, rfl⟩, by decide⟩⟩
theorem mX2_114 : wdLV RX2 114 MX2_ship 1 := ⟨rfl, lw_V q1053 q1054 q1055 q66 q1056, ⟨⟨by decide +kernel, by decide +kernel, rfl⟩, by decide⟩⟩
theorem mX2_85 : wdLV RX2 85 MX2_lamp 1 := ⟨rfl, lw_V q1076 q1077 q1078 q66 q1079, ⟨⟨by decide +kernel, by decide +kernel, rfl⟩, by decide⟩⟩
theorem mX2_118 : wdLV RX2 118 MX5_cost 1 := ⟨rfl, lw_V q1080 q1081 q1082 q85 q1083, ⟨⟨by decide +kernel, by decide +kernel, rfl⟩, by decide⟩⟩
theorem mX2_122 : wdLV RX2 122 MX4_pay 1 := ⟨rfl, lw_V q1084 q1085 q1086 q80 q1087, ⟨⟨by decide +kernel, by decide +kernel, rfl⟩, by decide⟩⟩
theorem mX2_77 : wdLSN RX2 77 MX1_requireIndex 1 := ⟨⟨rfl, ⟨_, nq1057⟩, q65, lw_meth q1059, ⟨⟨by decide +kernel, by decide +kernel, rfl⟩, by decide⟩⟩, q1058⟩
theorem mX2_81 : wdLV RX2 81 MJ2_get 1 := ⟨rfl, lw_V q1075 q603 q604 q69 q605, ⟨⟨by decide +kernel, by decide +kernel, rfl⟩, by decide⟩⟩
theorem mX2_136 : wdLV RX2 136 MX2_leasedLamp 1 := ⟨rfl, lw_V q1135 q1136 q1137 q66 q1138, ⟨⟨by decide +kernel, by decide +kernel, rfl⟩, by decide⟩⟩
theorem mX2_139 : wdLV RX2 139 MX2_isRequested 1 := ⟨rfl, lw_V q1144 q944 q945 q66 q946, ⟨⟨by decide +kernel, by decide +kernel, rfl⟩, by decide⟩⟩
theorem mX2_142 : wdLI RX2 142 MX7_init 2 := ⟨rfl, rfl, rfl, q1146, q1147, q94, lw_meth q1148, ⟨⟨by decide +kernel, by decide +kernel, rfl⟩, by decide⟩⟩
theorem mX2_92 : wdLSN RX2 92 MX1_requireElement 1 := ⟨⟨rfl, ⟨_, nq1139⟩, q65, lw_meth q1141, ⟨⟨by decide +kernel, by decide +kernel, rfl⟩, by decide⟩⟩, q1140⟩
theorem mX2_148 : wdLV RX2 148 MX2_endLease 1 := ⟨rfl, lw_V q1172 q1174 (lw_g (lw_ms _ (List.mem_of_getElem? (i := 8) rfl)) rfl) q66 q1175, ⟨⟨by decide +kernel, by decide +kernel, rfl⟩, by decide⟩⟩
theorem mX2_145 : wdLV RX2 145 MJ2_remove 1 := ⟨rfl, lw_V q1176 q993 q994 q69 q995, ⟨⟨by decide +kernel, by decide +kernel, rfl⟩, by decide⟩⟩
theorem mX2_185 : wdLV RX2 185 MX2_passHour 0 := ⟨rfl, lw_V q1188 q1190 (lw_g (lw_ms _ (List.mem_of_getElem? (i := 9) rfl)) rfl) q66 q1191, ⟨⟨by decide +kernel, by decide +kernel, rfl⟩, by decide⟩⟩
theorem mX2_168 : wdLVH RX2 168 MX2_processRequests 0 := ⟨⟨_, _, rfl⟩, lw_VW q1192 q1194 (lw_g (lw_ms _ (List.mem_of_getElem? (i := 10) rfl)) rfl) q66 q1195, ⟨⟨by decide +kernel, by decide +kernel, rfl⟩, by decide⟩⟩
theorem mX2_171 : wdLV RX2 171 MX2_burn 0 := ⟨rfl, lw_V q1204 q543 (lw_g (lw_ms _ (List.mem_of_getElem? (i := 4) rfl)) rfl) q66 q544, ⟨⟨by decide +kernel, by decide +kernel, rfl⟩, by decide⟩⟩
theorem mX2_173 : wdLV RX2 173 MX2_leasesOf 1 := ⟨rfl, lw_V q1205 q1206 q1207 q66 q1208, ⟨⟨by decide +kernel, by decide +kernel, rfl⟩, by decide⟩⟩
theorem mX2_176 : wdLV RX2 176 MX2_hasLight 1 := ⟨rfl, lw_V q1209 q1211 (lw_g (lw_ms _ (List.mem_of_getElem? (i := 12) rfl)) rfl) q66 q1212, ⟨⟨by decide +kernel, by decide +kernel, rfl⟩, by decide⟩⟩
theorem mX2_179 : wdLV RX2 179 MX4_fine 1 := ⟨rfl, lw_V q1213 q1214 q1215 q80 q1216, ⟨⟨by decide +kernel, by decide +kernel, rfl⟩, by decide⟩⟩
theorem mX2_182 : wdLV RX2 182 MX2_endLeases 0 := ⟨rfl, lw_V q1218 q1220 (lw_g (lw_ms _ (List.mem_of_getElem? (i := 13) rfl)) rfl) q66 q1221, ⟨⟨by decide +kernel, by decide +kernel, rfl⟩, by decide⟩⟩
theorem mX2_154 : wdLV RX2 154 MX2_renew 1 := ⟨rfl, lw_V q1196 q1198 (lw_g (lw_ms _ (List.mem_of_getElem? (i := 11) rfl)) rfl) q66 q1199, ⟨⟨by decide +kernel, by decide +kernel, rfl⟩, by decide⟩⟩
theorem mX2_158 : wdLV RX2 158 MJ2_clear 0 := ⟨rfl, lw_V q1200 q1201 q1202 q69 q1203, ⟨⟨by decide +kernel, by decide +kernel, rfl⟩, by decide⟩⟩
theorem mX2_188 : wdLV RX2 188 MX2_leased 0 := ⟨rfl, lw_V q1315 q263 q264 q66 q265, ⟨⟨by decide +kernel, by decide +kernel, rfl⟩, by decide⟩⟩
theorem mX2_191 : wdLV RX2 191 MX2_nextEnd 1 := ⟨rfl, lw_V q1331 q1333 (lw_g (lw_ms _ (List.mem_of_getElem? (i := 14) rfl)) rfl) q66 q1334, ⟨⟨by decide +kernel, by decide +kernel, rfl⟩, by decide⟩⟩
theorem mX2_194 : wdLV RX2 194 MX2_consumptionAfter 1 := ⟨rfl, lw_V q1335 q1337 (lw_g (lw_ms _ (List.mem_of_getElem? (i := 15) rfl)) rfl) q66 q1338, ⟨⟨by decide +kernel, by decide +kernel, rfl⟩, by decide⟩⟩
theorem mJ1_1 : wdLI RJ1 1 MJ0_init 0 := ⟨rfl, rfl, rfl, q126, q127, q67, lw_meth q128, ⟨⟨by decide +kernel, by decide +kernel, rfl⟩, by decide⟩⟩
theorem mJ2_1 : wdLI RJ2 1 MJ1_init 0 := ⟨rfl, rfl, rfl, q123, q124, q68, lw_meth q125, ⟨⟨by decide +kernel, by decide +kernel, rfl⟩, by decide⟩⟩
theorem mJ2_269 : wdLI RJ2 269 MJ7_init 1 := ⟨rfl, rfl, rfl, q272, q273, q75, lw_meth q274, ⟨⟨by decide +kernel, by decide +kernel, rfl⟩, by decide⟩⟩
theorem mJ2_131 : wdLV RJ2 131 MJ2_add_2 3 := ⟨rfl, lw_V q439 q441 (lw_g (lw_ms _ (List.mem_of_getElem? (i := 1) rfl)) rfl) q69 q442, ⟨⟨by decide +kernel, by decide +kernel, rfl⟩, by decide⟩⟩
theorem mJ2_129 : wdLV RJ2 129 MJ2_grow 0 := ⟨rfl, lw_V q443 q445 (lw_g (lw_ms _ (List.mem_of_getElem? (i := 2) rfl)) rfl) q69 q446, ⟨⟨by decide +kernel, by decide +kernel, rfl⟩, by decide⟩⟩
theorem mJ2_69 : wdLV RJ2 69 MJ2_grow_2 1 := ⟨rfl, lw_V q447 q449 (lw_g (lw_ms _ (List.mem_of_getElem? (i := 3) rfl)) rfl) q69 q450, ⟨⟨by decide +kernel, by decide +kernel, rfl⟩, by decide⟩⟩
theorem mJ2_73 : wdLS RJ2 73 MJ12_newLength 3 := ⟨rfl, lw_S q451 q452 q81 q453, ⟨⟨by decide +kernel, by decide +kernel, rfl⟩, by decide⟩⟩
theorem mJ2_118 : wdLS RJ2 118 MJ16_checkIndex 2 := ⟨rfl, lw_S q606 q607 q87 q608, ⟨⟨by decide +kernel, by decide +kernel, rfl⟩, by decide⟩⟩
theorem mJ2_123 : wdLV RJ2 123 MJ2_elementData 1 := ⟨rfl, lw_V q612 q613 q614 q69 q615, ⟨⟨by decide +kernel, by decide +kernel, rfl⟩, by decide⟩⟩
theorem mJ2_144 : wdLV RJ2 144 MJ2_fastRemove 2 := ⟨rfl, lw_V q996 q998 (lw_g (lw_ms _ (List.mem_of_getElem? (i := 7) rfl)) rfl) q69 q999, ⟨⟨by decide +kernel, by decide +kernel, rfl⟩, by decide⟩⟩
theorem mJ2_112 : wdLcp RJ2 112 := ⟨q1000, q502, q501, q84⟩
theorem mJ3_100 : wdLP RJ3 RJ4 100 MJ3_ensureCapacityInternal 1 := ⟨rfl, ⟨q659, q2190, q661, q70⟩, lw_meth q662, List.mem_of_getElem? (i := 0) rfl, ⟨by decide +kernel, by decide +kernel, rfl⟩, by decide⟩
theorem mJ3_83 : wdLU RJ3 RJ4 83 ({ cls := "java/lang/AbstractStringBuilder", name := "isLatin1", desc := "()Z" } : Jvm.MethodName) MJ3_isLatin1 0 := ⟨rfl, lw_app (List.forall_mem_cons.mpr ⟨q679, List.forall_mem_cons.mpr ⟨q681, List.forall_mem_cons.mpr ⟨q682, List.forall_mem_cons.mpr ⟨q680, List.forall_mem_cons.mpr ⟨q70, fun _ h => absurd h List.not_mem_nil⟩⟩⟩⟩⟩) (lw_meth q683), rfl, ⟨by decide +kernel, by decide +kernel, rfl⟩, by decide⟩
theorem mJ3_32 : wdLV RJ3 32 MJ5_length 0 := ⟨rfl, lw_V q710 q711 q712 q72 q713, ⟨⟨by decide +kernel, by decide +kernel, rfl⟩, by decide⟩⟩
theorem mJ3_208 : wdLP RJ3 RJ4 208 MJ3_putStringAt 2 := ⟨rfl, ⟨q719, q2192, q721, q70⟩, lw_meth q722, List.mem_of_getElem? (i := 2) rfl, ⟨by decide +kernel, by decide +kernel, rfl⟩, by decide⟩
theorem mJ3_104 : wdLP RJ3 RJ4 104 MJ3_newCapacity 1 := ⟨rfl, ⟨q663, q2191, q665, q70⟩, lw_meth q666, List.mem_of_getElem? (i := 1) rfl, ⟨by decide +kernel, by decide +kernel, rfl⟩, by decide⟩
theorem mJ3_108 : wdLS RJ3 108 MJ14_copyOf_3 2 := ⟨rfl, lw_S q669 q670 q83 q671, ⟨⟨by decide +kernel, by decide +kernel, rfl⟩, by decide⟩⟩
theorem mJ3_114 : wdLS RJ3 114 MJ12_newLength 3 := ⟨rfl, lw_S q667 q452 q81 q453, ⟨⟨by decide +kernel, by decide +kernel, rfl⟩, by decide⟩⟩
theorem mJ3_397 : wdLP RJ3 RJ4 397 MJ3_inflateIfNeededFor 1 := ⟨rfl, ⟨q723, q2193, q725, q70⟩, lw_meth q726, List.mem_of_getElem? (i := 3) rfl, ⟨by decide +kernel, by decide +kernel, rfl⟩, by decide⟩
theorem mJ3_399 : wdLV RJ3 399 MJ5_getBytes 3 := ⟨rfl, lw_V q747 q748 q749 q72 q750, ⟨⟨by decide +kernel, by decide +kernel, rfl⟩, by decide⟩⟩
theorem mJ3_40 : wdLV RJ3 40 MJ5_coder 0 := ⟨rfl, lw_V q727 q715 q716 q72 q717, ⟨⟨by decide +kernel, by decide +kernel, rfl⟩, by decide⟩⟩
theorem mJ3_245 : wdLS RJ3 245 MJ24_stringSize 1 := ⟨rfl, lw_S q760 q761 q101 q762, ⟨⟨by decide +kernel, by decide +kernel, rfl⟩, by decide⟩⟩
theorem mJ3_248 : wdLS RJ3 248 MJ24_getChars 3 := ⟨rfl, lw_S q763 q764 q101 q765, ⟨⟨by decide +kernel, by decide +kernel, rfl⟩, by decide⟩⟩
theorem mJ3_191 : wdLS RJ3 191 MJ23_canEncode 1 := ⟨rfl, lw_S q930 q931 q97 q932, ⟨⟨by decide +kernel, by decide +kernel, rfl⟩, by decide⟩⟩
theorem mJ3_144 : wdLS RJ3 144 MJ5_checkIndex 2 := ⟨rfl, lw_S q1711 q940 q72 q941, ⟨⟨by decide +kernel, by decide +kernel, rfl⟩, by decide⟩⟩
theorem mJ4_1 : wdLI RJ4 1 MJ3_init 1 := ⟨rfl, rfl, rfl, q183, q184, q70, lw_meth q185, ⟨⟨by decide +kernel, by decide +kernel, rfl⟩, by decide⟩⟩
theorem mJ4_333 : wdLSU RJ4 333 MJ3_setLength 1 := ⟨rfl, lw_app (List.forall_mem_cons.mpr ⟨q637, List.forall_mem_cons.mpr ⟨q2187, List.forall_mem_cons.mpr ⟨q209, List.forall_mem_cons.mpr ⟨q638, List.forall_mem_cons.mpr ⟨q70, fun _ h => absurd h List.not_mem_nil⟩⟩⟩⟩⟩) (lw_meth q639), ⟨by decide +kernel, rfl⟩, by decide⟩
theorem mJ4_29 : wdLSU RJ4 29 MJ3_append 1 := ⟨rfl, lw_app (List.forall_mem_cons.mpr ⟨q652, List.forall_mem_cons.mpr ⟨q2188, List.forall_mem_cons.mpr ⟨q209, List.forall_mem_cons.mpr ⟨q653, List.forall_mem_cons.mpr ⟨q70, fun _ h => absurd h List.not_mem_nil⟩⟩⟩⟩⟩) (lw_meth q654), ⟨by decide +kernel, rfl⟩, by decide⟩
theorem mJ4_53 : wdLSU RJ4 53 MJ3_append_2 1 := ⟨rfl, lw_app (List.forall_mem_cons.mpr ⟨q757, List.forall_mem_cons.mpr ⟨q2195, List.forall_mem_cons.mpr ⟨q209, List.forall_mem_cons.mpr ⟨q758, List.forall_mem_cons.mpr ⟨q70, fun _ h => absurd h List.not_mem_nil⟩⟩⟩⟩⟩) (lw_meth q759), ⟨by decide +kernel, rfl⟩, by decide⟩
theorem mJ4_343 : wdLSU RJ4 343 MJ3_length 0 := ⟨rfl, lw_app (List.forall_mem_cons.mpr ⟨q802, List.forall_mem_cons.mpr ⟨q798, List.forall_mem_cons.mpr ⟨q209, List.forall_mem_cons.mpr ⟨q797, List.forall_mem_cons.mpr ⟨q70, fun _ h => absurd h List.not_mem_nil⟩⟩⟩⟩⟩) (lw_meth q803), ⟨by decide +kernel, rfl⟩, by decide⟩
theorem mJ4_50 : wdLSU RJ4 50 MJ3_append_3 1 := ⟨rfl, lw_app (List.forall_mem_cons.mpr ⟨q927, List.forall_mem_cons.mpr ⟨q2196, List.forall_mem_cons.mpr ⟨q209, List.forall_mem_cons.mpr ⟨q928, List.forall_mem_cons.mpr ⟨q70, fun _ h => absurd h List.not_mem_nil⟩⟩⟩⟩⟩) (lw_meth q929), ⟨by decide +kernel, rfl⟩, by decide⟩
theorem mJ4_329 : wdLSU RJ4 329 MJ3_charAt 1 := ⟨rfl, lw_app (List.forall_mem_cons.mpr ⟨q1707, List.forall_mem_cons.mpr ⟨q2198, List.forall_mem_cons.mpr ⟨q209, List.forall_mem_cons.mpr ⟨q1708, List.forall_mem_cons.mpr ⟨q70, fun _ h => absurd h List.not_mem_nil⟩⟩⟩⟩⟩) (lw_meth q1709), ⟨by decide +kernel, rfl⟩, by decide⟩
theorem mJ5_335 : wdLV RJ5 335 MJ5_coder 0 := ⟨rfl, lw_V q714 q715 q716 q72 q717, ⟨⟨by decide +kernel, by decide +kernel, rfl⟩, by decide⟩⟩
theorem mJ5_212 : wdLcp RJ5 212 := ⟨q751, q502, q501, q84⟩
theorem mJ5_1059 : wdLS RJ5 1059 MJ17_checkIndex 3 := ⟨rfl, lw_S q942 q610 q88 q611, ⟨⟨by decide +kernel, by decide +kernel, rfl⟩, by decide⟩⟩
theorem mJ5_492 : wdLV RJ5 492 MJ5_isLatin1 0 := ⟨rfl, lw_V q1507 q1508 q1509 q72 q1510, ⟨⟨by decide +kernel, by decide +kernel, rfl⟩, by decide⟩⟩
theorem mJ5_495 : wdLS RJ5 495 MJ23_charAt 2 := ⟨rfl, lw_S q1511 q1512 q97 q1513, ⟨⟨by decide +kernel, by decide +kernel, rfl⟩, by decide⟩⟩
theorem mX3_73 : wdLV RX3 73 MX3_keep 0 := ⟨rfl, lw_V q1804 q1806 (lw_g (lw_ms _ (List.mem_of_getElem? (i := 26) rfl)) rfl) q74 q1807, ⟨⟨by decide +kernel, by decide +kernel, rfl⟩, by decide⟩⟩
theorem mX3_76 : wdLV RX3 76 MX3_doAddShip 0 := ⟨rfl, lw_V q1809 q1811 (lw_g (lw_ms _ (List.mem_of_getElem? (i := 27) rfl)) rfl) q74 q1812, ⟨⟨by decide +kernel, by decide +kernel, rfl⟩, by decide⟩⟩
theorem mX3_80 : wdLV RX3 80 MX3_ends 1 := ⟨rfl, lw_V q1817 q1819 (lw_g (lw_ms _ (List.mem_of_getElem? (i := 29) rfl)) rfl) q74 q1820, ⟨⟨by decide +kernel, by decide +kernel, rfl⟩, by decide⟩⟩
theorem mX3_45 : wdLcp RX3 45 := ⟨q1808, q502, q501, q84⟩
theorem mX3_70 : wdLV RX3 70 MX3_fails 1 := ⟨rfl, lw_V q1813 q1815 (lw_g (lw_ms _ (List.mem_of_getElem? (i := 28) rfl)) rfl) q74 q1816, ⟨⟨by decide +kernel, by decide +kernel, rfl⟩, by decide⟩⟩
theorem mX3_83 : wdLV RX3 83 MX3_doAddLamp 1 := ⟨rfl, lw_V q1825 q1827 (lw_g (lw_ms _ (List.mem_of_getElem? (i := 30) rfl)) rfl) q74 q1828, ⟨⟨by decide +kernel, by decide +kernel, rfl⟩, by decide⟩⟩
theorem mX3_54 : wdLS RX3 54 MX3_in 3 := ⟨rfl, lw_S q1829 q1830 q74 q1831, ⟨⟨by decide +kernel, by decide +kernel, rfl⟩, by decide⟩⟩
theorem mX3_66 : wdLV RX3 66 MX3_sets 3 := ⟨rfl, lw_V q1832 q1834 (lw_g (lw_ms _ (List.mem_of_getElem? (i := 31) rfl)) rfl) q74 q1835, ⟨⟨by decide +kernel, by decide +kernel, rfl⟩, by decide⟩⟩
theorem mX3_86 : wdLV RX3 86 MX3_doAddOil 1 := ⟨rfl, lw_V q1840 q1842 (lw_g (lw_ms _ (List.mem_of_getElem? (i := 32) rfl)) rfl) q74 q1843, ⟨⟨by decide +kernel, by decide +kernel, rfl⟩, by decide⟩⟩
theorem mX3_106 : wdLV RX3 106 MX3_doLease 3 := ⟨rfl, lw_V q1848 q1850 (lw_g (lw_ms _ (List.mem_of_getElem? (i := 33) rfl)) rfl) q74 q1851, ⟨⟨by decide +kernel, by decide +kernel, rfl⟩, by decide⟩⟩
theorem mX3_89 : wdLV RX3 89 MX3_isShip 1 := ⟨rfl, lw_V q1852 q1854 (lw_g (lw_ms _ (List.mem_of_getElem? (i := 34) rfl)) rfl) q74 q1855, ⟨⟨by decide +kernel, by decide +kernel, rfl⟩, by decide⟩⟩
theorem mX3_93 : wdLV RX3 93 MX3_isLamp 1 := ⟨rfl, lw_V q1856 q1858 (lw_g (lw_ms _ (List.mem_of_getElem? (i := 35) rfl)) rfl) q74 q1859, ⟨⟨by decide +kernel, by decide +kernel, rfl⟩, by decide⟩⟩
theorem mX3_96 : wdLV RX3 96 MX3_isOut 1 := ⟨rfl, lw_V q1860 q1862 (lw_g (lw_ms _ (List.mem_of_getElem? (i := 36) rfl)) rfl) q74 q1863, ⟨⟨by decide +kernel, by decide +kernel, rfl⟩, by decide⟩⟩
theorem mX3_58 : wdLV RX3 58 MX3_of 2 := ⟨rfl, lw_V q1864 q1866 (lw_g (lw_ms _ (List.mem_of_getElem? (i := 37) rfl)) rfl) q74 q1867, ⟨⟨by decide +kernel, by decide +kernel, rfl⟩, by decide⟩⟩
theorem mX3_99 : wdLV RX3 99 MX3_ofShip 2 := ⟨rfl, lw_V q1868 q1870 (lw_g (lw_ms _ (List.mem_of_getElem? (i := 38) rfl)) rfl) q74 q1871, ⟨⟨by decide +kernel, by decide +kernel, rfl⟩, by decide⟩⟩
theorem mX3_102 : wdLV RX3 102 MX3_pays 2 := ⟨rfl, lw_V q1872 q1874 (lw_g (lw_ms _ (List.mem_of_getElem? (i := 39) rfl)) rfl) q74 q1875, ⟨⟨by decide +kernel, by decide +kernel, rfl⟩, by decide⟩⟩
theorem mX3_110 : wdLV RX3 110 MX3_doRequestRenewal 2 := ⟨rfl, lw_V q1880 q1882 (lw_g (lw_ms _ (List.mem_of_getElem? (i := 40) rfl)) rfl) q74 q1883, ⟨⟨by decide +kernel, by decide +kernel, rfl⟩, by decide⟩⟩
theorem mX3_62 : wdLV RX3 62 MX3_requestFor 1 := ⟨rfl, lw_V q1884 q1886 (lw_g (lw_ms _ (List.mem_of_getElem? (i := 41) rfl)) rfl) q74 q1887, ⟨⟨by decide +kernel, by decide +kernel, rfl⟩, by decide⟩⟩
theorem mX3_117 : wdLV RX3 117 MX3_doGiveUp 1 := ⟨rfl, lw_V q1892 q1894 (lw_g (lw_ms _ (List.mem_of_getElem? (i := 42) rfl)) rfl) q74 q1895, ⟨⟨by decide +kernel, by decide +kernel, rfl⟩, by decide⟩⟩
theorem mX3_113 : wdLV RX3 113 MX3_frees 1 := ⟨rfl, lw_V q1896 q1898 (lw_g (lw_ms _ (List.mem_of_getElem? (i := 43) rfl)) rfl) q74 q1899, ⟨⟨by decide +kernel, by decide +kernel, rfl⟩, by decide⟩⟩
theorem mX3_141 : wdLV RX3 141 MX3_doPassHours 1 := ⟨rfl, lw_V q1904 q1906 (lw_g (lw_ms _ (List.mem_of_getElem? (i := 44) rfl)) rfl) q74 q1907, ⟨⟨by decide +kernel, by decide +kernel, rfl⟩, by decide⟩⟩
theorem mX3_129 : wdLV RX3 129 MX3_renews 0 := ⟨rfl, lw_V q1908 q1910 (lw_g (lw_ms _ (List.mem_of_getElem? (i := 45) rfl)) rfl) q74 q1911, ⟨⟨by decide +kernel, by decide +kernel, rfl⟩, by decide⟩⟩
theorem mX3_132 : wdLV RX3 132 MX3_burns 0 := ⟨rfl, lw_V q1912 q1914 (lw_g (lw_ms _ (List.mem_of_getElem? (i := 46) rfl)) rfl) q74 q1915, ⟨⟨by decide +kernel, by decide +kernel, rfl⟩, by decide⟩⟩
theorem mX3_135 : wdLV RX3 135 MX3_fines 0 := ⟨rfl, lw_V q1916 q1918 (lw_g (lw_ms _ (List.mem_of_getElem? (i := 47) rfl)) rfl) q74 q1919, ⟨⟨by decide +kernel, by decide +kernel, rfl⟩, by decide⟩⟩
theorem mX3_138 : wdLV RX3 138 MX3_endsLeases 0 := ⟨rfl, lw_V q1925 q1927 (lw_g (lw_ms _ (List.mem_of_getElem? (i := 49) rfl)) rfl) q74 q1928, ⟨⟨by decide +kernel, by decide +kernel, rfl⟩, by decide⟩⟩
theorem mX3_120 : wdLV RX3 120 MX3_lampsOf 2 := ⟨rfl, lw_V q1920 q1922 (lw_g (lw_ms _ (List.mem_of_getElem? (i := 48) rfl)) rfl) q74 q1923, ⟨⟨by decide +kernel, by decide +kernel, rfl⟩, by decide⟩⟩
theorem mX3_144 : wdLV RX3 144 MX3_isThere 1 := ⟨rfl, lw_V q1941 q1943 (lw_g (lw_ms _ (List.mem_of_getElem? (i := 50) rfl)) rfl) q74 q1944, ⟨⟨by decide +kernel, by decide +kernel, rfl⟩, by decide⟩⟩
theorem mX3_148 : wdLV RX3 148 MX3_wants 1 := ⟨rfl, lw_V q1957 q1959 (lw_g (lw_ms _ (List.mem_of_getElem? (i := 51) rfl)) rfl) q74 q1960, ⟨⟨by decide +kernel, by decide +kernel, rfl⟩, by decide⟩⟩
theorem mX3_151 : wdLV RX3 151 MX3_leased 0 := ⟨rfl, lw_V q1997 q1999 (lw_g (lw_ms _ (List.mem_of_getElem? (i := 52) rfl)) rfl) q74 q2000, ⟨⟨by decide +kernel, by decide +kernel, rfl⟩, by decide⟩⟩
theorem mX3_154 : wdLV RX3 154 MX3_needed 0 := ⟨rfl, lw_V q2009 q2011 (lw_g (lw_ms _ (List.mem_of_getElem? (i := 53) rfl)) rfl) q74 q2012, ⟨⟨by decide +kernel, by decide +kernel, rfl⟩, by decide⟩⟩
theorem mX3_157 : wdLV RX3 157 MX3_hoursOfOil 0 := ⟨rfl, lw_V q2021 q2014 q2015 q74 q2016, ⟨⟨by decide +kernel, by decide +kernel, rfl⟩, by decide⟩⟩
theorem mX3_160 : wdLV RX3 160 MX3_mostBright 0 := ⟨rfl, lw_V q2034 q2027 q2028 q74 q2029, ⟨⟨by decide +kernel, by decide +kernel, rfl⟩, by decide⟩⟩
theorem mX3_163 : wdLV RX3 163 MX3_partOf 1 := ⟨rfl, lw_V q2039 q2041 (lw_g (lw_ms _ (List.mem_of_getElem? (i := 54) rfl)) rfl) q74 q2042, ⟨⟨by decide +kernel, by decide +kernel, rfl⟩, by decide⟩⟩
theorem mX3_166 : wdLV RX3 166 MX3_share 1 := ⟨rfl, lw_V q2047 q2036 q2037 q74 q2038, ⟨⟨by decide +kernel, by decide +kernel, rfl⟩, by decide⟩⟩
theorem mX3_169 : wdLV RX3 169 MX3_isRequest 1 := ⟨rfl, lw_V q2056 q2058 (lw_g (lw_ms _ (List.mem_of_getElem? (i := 55) rfl)) rfl) q74 q2059, ⟨⟨by decide +kernel, by decide +kernel, rfl⟩, by decide⟩⟩
theorem mX3_178 : wdLV RX3 178 MX3_says 1 := ⟨rfl, lw_V q2096 q2098 (lw_g (lw_ms _ (List.mem_of_getElem? (i := 56) rfl)) rfl) q74 q2099, ⟨⟨by decide +kernel, by decide +kernel, rfl⟩, by decide⟩⟩
theorem mX3_175 : wdLV RX3 175 MX3_saysNumber 1 := ⟨rfl, lw_V q2100 q2102 (lw_g (lw_ms _ (List.mem_of_getElem? (i := 57) rfl)) rfl) q74 q2103, ⟨⟨by decide +kernel, by decide +kernel, rfl⟩, by decide⟩⟩
theorem mX3_243 : wdLV RX3 243 MX3_readCommand 0 := ⟨rfl, lw_V q2116 q2118 (lw_g (lw_ms _ (List.mem_of_getElem? (i := 58) rfl)) rfl) q74 q2119, ⟨⟨by decide +kernel, by decide +kernel, rfl⟩, by decide⟩⟩
theorem mX3_196 : wdLV RX3 196 MX3_behind 1 := ⟨rfl, lw_V q2120 q2122 (lw_g (lw_ms _ (List.mem_of_getElem? (i := 59) rfl)) rfl) q74 q2123, ⟨⟨by decide +kernel, by decide +kernel, rfl⟩, by decide⟩⟩
theorem mX3_246 : wdLV RX3 246 MX3_does 1 := ⟨rfl, lw_V q2146 q2148 (lw_g (lw_ms _ (List.mem_of_getElem? (i := 63) rfl)) rfl) q74 q2149, ⟨⟨by decide +kernel, by decide +kernel, rfl⟩, by decide⟩⟩
theorem mX3_199 : wdLV RX3 199 MJ5_charAt 1 := ⟨rfl, lw_V q2131 q1504 q1505 q72 q1506, ⟨⟨by decide +kernel, by decide +kernel, rfl⟩, by decide⟩⟩
theorem mX3_205 : wdLV RX3 205 MX3_skip 1 := ⟨rfl, lw_V q2126 q2128 (lw_g (lw_ms _ (List.mem_of_getElem? (i := 60) rfl)) rfl) q74 q2129, ⟨⟨by decide +kernel, by decide +kernel, rfl⟩, by decide⟩⟩
theorem mX3_220 : wdLV RX3 220 MX3_readNumber 1 := ⟨rfl, lw_V q2132 q2134 (lw_g (lw_ms _ (List.mem_of_getElem? (i := 61) rfl)) rfl) q74 q2135, ⟨⟨by decide +kernel, by decide +kernel, rfl⟩, by decide⟩⟩
theorem mX3_188 : wdLV RX3 188 MJ5_length 0 := ⟨rfl, lw_V q2130 q711 q712 q72 q713, ⟨⟨by decide +kernel, by decide +kernel, rfl⟩, by decide⟩⟩
theorem mX3_209 : wdLV RX3 209 MX3_isDigit 0 := ⟨rfl, lw_V q2137 q2139 (lw_g (lw_ms _ (List.mem_of_getElem? (i := 62) rfl)) rfl) q74 q2140, ⟨⟨by decide +kernel, by decide +kernel, rfl⟩, by decide⟩⟩
theorem mJ7_31 : wdLV RJ7 31 MJ7_checkForComodification 0 := ⟨rfl, lw_V q308 q309 q310 q75 q311, ⟨⟨by decide +kernel, by decide +kernel, rfl⟩, by decide⟩⟩
theorem mJ9_16 : wdLI RJ9 16 MJ8_init_3 4 := ⟨rfl, rfl, rfl, q1103, q1104, q76, lw_meth q1105, ⟨⟨by decide +kernel, by decide +kernel, rfl⟩, by decide⟩⟩
theorem mJ9_10 : wdLI RJ9 10 MJ8_init_4 2 := ⟨rfl, rfl, rfl, q1545, q1546, q76, lw_meth q1547, ⟨⟨by decide +kernel, by decide +kernel, rfl⟩, by decide⟩⟩
theorem mX4_15 : wdLI RX4 15 MX4_init 0 := ⟨rfl, rfl, rfl, q418, q419, q80, lw_meth q420, ⟨⟨by decide +kernel, by decide +kernel, rfl⟩, by decide⟩⟩
theorem mX4_24 : wdLI RX4 24 MX6_init 0 := ⟨rfl, rfl, rfl, q1097, q1098, q92, lw_meth q1099, ⟨⟨by decide +kernel, by decide +kernel, rfl⟩, by decide⟩⟩
theorem mJ14_150 : wdLcp RJ14 150 := ⟨q500, q502, q501, q84⟩
theorem mX5_18 : wdLI RX5 18 MX5_init 1 := ⟨rfl, rfl, rfl, q511, q512, q85, lw_meth q513, ⟨⟨by decide +kernel, by decide +kernel, rfl⟩, by decide⟩⟩
theorem mX5_31 : wdLV RX5 31 MX5_isLeased 0 := ⟨rfl, lw_V q549 q386 q387 q85 q388, ⟨⟨by decide +kernel, by decide +kernel, rfl⟩, by decide⟩⟩
theorem mJ16_105 : wdLS RJ16 105 MJ17_checkIndex 3 := ⟨rfl, lw_S q609 q610 q88 q611, ⟨⟨by decide +kernel, by decide +kernel, rfl⟩, by decide⟩⟩
theorem mX6_1 : wdLI RX6 1 MJ9_init_3 4 := ⟨rfl, rfl, rfl, q1100, q1101, q77, lw_meth q1102, ⟨⟨by decide +kernel, by decide +kernel, rfl⟩, by decide⟩⟩
theorem mX8_141 : wdLVH RX8 141 MX8_command 2 := ⟨⟨_, _, rfl⟩, lw_VW q1478 q1480 (lw_g (lw_ms _ (List.mem_of_getElem? (i := 18) rfl)) rfl) q96 q1481, ⟨⟨by decide +kernel, by decide +kernel, rfl⟩, by decide⟩⟩
theorem mX8_39 : wdLV RX8 39 MX8_next 2 := ⟨rfl, lw_V q1518 q1520 (lw_g (lw_ms _ (List.mem_of_getElem? (i := 21) rfl)) rfl) q96 q1521, ⟨⟨by decide +kernel, by decide +kernel, rfl⟩, by decide⟩⟩
theorem mX8_108 : wdLV RX8 108 MX8_keyword 0 := ⟨rfl, lw_V q1487 q1489 (lw_g (lw_ms _ (List.mem_of_getElem? (i := 19) rfl)) rfl) q96 q1490, ⟨⟨by decide +kernel, by decide +kernel, rfl⟩, by decide⟩⟩
theorem mX8_112 : wdLV RX8 112 MJ5_length 0 := ⟨rfl, lw_V q1502 q711 q712 q72 q713, ⟨⟨by decide +kernel, by decide +kernel, rfl⟩, by decide⟩⟩
theorem mX8_115 : wdLV RX8 115 MJ5_charAt 1 := ⟨rfl, lw_V q1503 q1504 q1505 q72 q1506, ⟨⟨by decide +kernel, by decide +kernel, rfl⟩, by decide⟩⟩
theorem mX8_118 : wdLV RX8 118 MX8_readNumbers 1 := ⟨rfl, lw_V q1554 q1556 (lw_g (lw_ms _ (List.mem_of_getElem? (i := 23) rfl)) rfl) q96 q1557, ⟨⟨by decide +kernel, by decide +kernel, rfl⟩, by decide⟩⟩
theorem mX8_122 : wdLV RX8 122 MX8_carryOut 2 := ⟨rfl, lw_V q1627 q1629 (lw_g (lw_ms _ (List.mem_of_getElem? (i := 25) rfl)) rfl) q96 q1630, ⟨⟨by decide +kernel, by decide +kernel, rfl⟩, by decide⟩⟩
theorem mX8_138 : wdLI RX8 138 MX11_init 2 := ⟨rfl, rfl, rfl, q1647, q1648, q102, lw_meth q1649, ⟨⟨by decide +kernel, by decide +kernel, rfl⟩, by decide⟩⟩
theorem mX8_43 : wdLV RX8 43 MX8_peek 1 := ⟨rfl, lw_V q1491 q1493 (lw_g (lw_ms _ (List.mem_of_getElem? (i := 20) rfl)) rfl) q96 q1494, ⟨⟨by decide +kernel, by decide +kernel, rfl⟩, by decide⟩⟩
theorem mX8_30 : wdLV RX8 30 MX8_sees 2 := ⟨rfl, lw_V q1522 q1524 (lw_g (lw_ms _ (List.mem_of_getElem? (i := 22) rfl)) rfl) q96 q1525, ⟨⟨by decide +kernel, by decide +kernel, rfl⟩, by decide⟩⟩
theorem mX8_36 : wdLI RX8 36 MX10_init 1 := ⟨rfl, rfl, rfl, q1536, q1537, q99, lw_meth q1538, ⟨⟨by decide +kernel, by decide +kernel, rfl⟩, by decide⟩⟩
theorem mX8_26 : wdLSN RX8 26 MX1_isBetween 3 := ⟨⟨rfl, ⟨_, nq1526⟩, q65, lw_meth q1016, ⟨⟨by decide +kernel, by decide +kernel, rfl⟩, by decide⟩⟩, q1015⟩
theorem mX8_61 : wdLV RX8 61 MJ5_hashCode 0 := ⟨rfl, lw_V q1558 q1559 q1560 q72 q1561, ⟨⟨by decide +kernel, by decide +kernel, rfl⟩, by decide⟩⟩
theorem mX8_67 : wdLV RX8 67 MJ5_equals 1 := ⟨rfl, lw_V q1615 q1616 q1617 q72 q1618, ⟨⟨by decide +kernel, by decide +kernel, rfl⟩, by decide⟩⟩
theorem mX8_71 : wdLV RX8 71 MX8_number 1 := ⟨rfl, lw_V q1623 q1625 (lw_g (lw_ms _ (List.mem_of_getElem? (i := 24) rfl)) rfl) q96 q1626, ⟨⟨by decide +kernel, by decide +kernel, rfl⟩, by decide⟩⟩
theorem mX8_84 : wdLV RX8 84 MX2_addShip 0 := ⟨rfl, lw_V q1631 q966 q967 q66 q968, ⟨⟨by decide +kernel, by decide +kernel, rfl⟩, by decide⟩⟩
theorem mX8_89 : wdLV RX8 89 MX2_addLamp 1 := ⟨rfl, lw_V q1632 q1011 q1012 q66 q1013, ⟨⟨by decide +kernel, by decide +kernel, rfl⟩, by decide⟩⟩
theorem mX8_92 : wdLV RX8 92 MX2_giveUp 1 := ⟨rfl, lw_V q1633 q1169 q1170 q66 q1171, ⟨⟨by decide +kernel, by decide +kernel, rfl⟩, by decide⟩⟩
theorem mX8_95 : wdLV RX8 95 MX2_addOil 1 := ⟨rfl, lw_V q1634 q1034 q1035 q66 q1036, ⟨⟨by decide +kernel, by decide +kernel, rfl⟩, by decide⟩⟩
theorem mX8_98 : wdLV RX8 98 MX2_passHours 1 := ⟨rfl, lw_V q1635 q1185 q1186 q66 q1187, ⟨⟨by decide +kernel, by decide +kernel, rfl⟩, by decide⟩⟩
theorem mX8_101 : wdLV RX8 101 MX2_request 2 := ⟨rfl, lw_V q1636 q1132 q1133 q66 q1134, ⟨⟨by decide +kernel, by decide +kernel, rfl⟩, by decide⟩⟩
theorem mX8_105 : wdLVH RX8 105 MX2_lease 3 := ⟨⟨_, _, rfl⟩, lw_VW q1637 q1049 q1050 q66 q1051, ⟨⟨by decide +kernel, by decide +kernel, rfl⟩, by decide⟩⟩
theorem mJ23_9 : wdLS RJ23 9 MJ5_checkIndex 2 := ⟨rfl, lw_S q1514 q940 q72 q941, ⟨⟨by decide +kernel, by decide +kernel, rfl⟩, by decide⟩⟩
theorem mX9_1 : wdLI RX9 1 MJ9_init_4 2 := ⟨rfl, rfl, rfl, q1542, q1543, q77, lw_meth q1544, ⟨⟨by decide +kernel, by decide +kernel, rfl⟩, by decide⟩⟩
theorem mX10_1 : wdLI RX10 1 MX9_init 1 := ⟨rfl, rfl, rfl, q1539, q1540, q98, lw_meth q1541, ⟨⟨by decide +kernel, by decide +kernel, rfl⟩, by decide⟩⟩
theorem mX11_1 : wdLI RX11 1 MX9_init 1 := ⟨rfl, rfl, rfl, q1650, q1540, q98, lw_meth q1541, ⟨⟨by decide +kernel, by decide +kernel, rfl⟩, by decide⟩⟩
theorem mX0_139 : wdLI RX0 139 MX1_init 0 := ⟨rfl, rfl, rfl, q106, q107, q65, lw_meth q108, ⟨⟨by decide +kernel, by decide +kernel, rfl⟩, by decide⟩⟩
theorem mX0_142 : wdLI RX0 142 MX3_init 0 := ⟨rfl, rfl, rfl, q1734, q1735, q74, lw_meth q1736, ⟨⟨by decide +kernel, by decide +kernel, rfl⟩, by decide⟩⟩
theorem mX0_143 : wdLSH RX0 143 MX0_addShip 2 := ⟨⟨_, _, rfl⟩, lw_SW q957 q958 q64 q959, ⟨⟨by decide +kernel, by decide +kernel, rfl⟩, by decide⟩⟩
theorem mX0_148 : wdLV RX0 148 MX3_addShip 0 := ⟨rfl, lw_V q1800 q1801 q1802 q74 q1803, ⟨⟨by decide +kernel, by decide +kernel, rfl⟩, by decide⟩⟩
theorem mX0_149 : wdLV RX0 149 MX3_thrown 0 := ⟨rfl, lw_V q1796 q1797 q1798 q74 q1799, ⟨⟨by decide +kernel, by decide +kernel, rfl⟩, by decide⟩⟩
theorem mX0_152 : wdLSH RX0 152 MX0_addLamp 3 := ⟨⟨_, _, rfl⟩, lw_SW q1002 q1003 q64 q1004, ⟨⟨by decide +kernel, by decide +kernel, rfl⟩, by decide⟩⟩
theorem mX0_155 : wdLV RX0 155 MX3_addLamp 1 := ⟨rfl, lw_V q1821 q1822 q1823 q74 q1824, ⟨⟨by decide +kernel, by decide +kernel, rfl⟩, by decide⟩⟩
theorem mX0_156 : wdLSH RX0 156 MX0_addOil 3 := ⟨⟨_, _, rfl⟩, lw_SW q1026 q1027 q64 q1028, ⟨⟨by decide +kernel, by decide +kernel, rfl⟩, by decide⟩⟩
theorem mX0_158 : wdLV RX0 158 MX3_addOil 1 := ⟨rfl, lw_V q1836 q1837 q1838 q74 q1839, ⟨⟨by decide +kernel, by decide +kernel, rfl⟩, by decide⟩⟩
theorem mX0_159 : wdLSH RX0 159 MX0_lease 5 := ⟨⟨_, _, rfl⟩, lw_SW q1037 q1038 q64 q1039, ⟨⟨by decide +kernel, by decide +kernel, rfl⟩, by decide⟩⟩
theorem mX0_162 : wdLV RX0 162 MX3_lease 3 := ⟨rfl, lw_V q1844 q1845 q1846 q74 q1847, ⟨⟨by decide +kernel, by decide +kernel, rfl⟩, by decide⟩⟩
theorem mX0_163 : wdLSH RX0 163 MX0_requestRenewal 4 := ⟨⟨_, _, rfl⟩, lw_SW q1123 q1124 q64 q1125, ⟨⟨by decide +kernel, by decide +kernel, rfl⟩, by decide⟩⟩
theorem mX0_166 : wdLV RX0 166 MX3_requestRenewal 2 := ⟨rfl, lw_V q1876 q1877 q1878 q74 q1879, ⟨⟨by decide +kernel, by decide +kernel, rfl⟩, by decide⟩⟩
theorem mX0_167 : wdLSH RX0 167 MX0_giveUp 3 := ⟨⟨_, _, rfl⟩, lw_SW q1161 q1162 q64 q1163, ⟨⟨by decide +kernel, by decide +kernel, rfl⟩, by decide⟩⟩
theorem mX0_169 : wdLV RX0 169 MX3_giveUp 1 := ⟨rfl, lw_V q1888 q1889 q1890 q74 q1891, ⟨⟨by decide +kernel, by decide +kernel, rfl⟩, by decide⟩⟩
theorem mX0_170 : wdLSH RX0 170 MX0_passHours 3 := ⟨⟨_, _, rfl⟩, lw_SW q1177 q1178 q64 q1179, ⟨⟨by decide +kernel, by decide +kernel, rfl⟩, by decide⟩⟩
theorem mX0_172 : wdLV RX0 172 MX3_passHours 1 := ⟨rfl, lw_V q1900 q1901 q1902 q74 q1903, ⟨⟨by decide +kernel, by decide +kernel, rfl⟩, by decide⟩⟩
theorem mX0_173 : wdLV RX0 173 MX1_hour 0 := ⟨rfl, lw_V q242 q243 q244 q65 q245, ⟨⟨by decide +kernel, by decide +kernel, rfl⟩, by decide⟩⟩
theorem mX0_176 : wdLV RX0 176 MX3_hour 0 := ⟨rfl, lw_V q1929 q1930 q1931 q74 q1932, ⟨⟨by decide +kernel, by decide +kernel, rfl⟩, by decide⟩⟩
theorem mX0_177 : wdLV RX0 177 MX1_shipCount 0 := ⟨rfl, lw_V q246 q247 q248 q65 q249, ⟨⟨by decide +kernel, by decide +kernel, rfl⟩, by decide⟩⟩
theorem mX0_180 : wdLV RX0 180 MX3_shipCount 0 := ⟨rfl, lw_V q1933 q1934 q1935 q74 q1936, ⟨⟨by decide +kernel, by decide +kernel, rfl⟩, by decide⟩⟩
theorem mX0_181 : wdLSH RX0 181 MX0_coins 3 := ⟨⟨_, _, rfl⟩, lw_SW q1222 q1223 q64 q1224, ⟨⟨by decide +kernel, by decide +kernel, rfl⟩, by decide⟩⟩
theorem mX0_183 : wdLV RX0 183 MX3_coins 1 := ⟨rfl, lw_V q1937 q1938 q1939 q74 q1940, ⟨⟨by decide +kernel, by decide +kernel, rfl⟩, by decide⟩⟩
theorem mX0_184 : wdLSH RX0 184 MX0_finesPaid 3 := ⟨⟨_, _, rfl⟩, lw_SW q1230 q1231 q64 q1232, ⟨⟨by decide +kernel, by decide +kernel, rfl⟩, by decide⟩⟩
theorem mX0_186 : wdLV RX0 186 MX3_finesPaid 1 := ⟨rfl, lw_V q1945 q1946 q1947 q74 q1948, ⟨⟨by decide +kernel, by decide +kernel, rfl⟩, by decide⟩⟩
theorem mX0_187 : wdLSH RX0 187 MX0_darkHours 3 := ⟨⟨_, _, rfl⟩, lw_SW q1237 q1238 q64 q1239, ⟨⟨by decide +kernel, by decide +kernel, rfl⟩, by decide⟩⟩
theorem mX0_189 : wdLV RX0 189 MX3_darkHours 1 := ⟨rfl, lw_V q1949 q1950 q1951 q74 q1952, ⟨⟨by decide +kernel, by decide +kernel, rfl⟩, by decide⟩⟩
theorem mX0_190 : wdLSH RX0 190 MX0_demand 3 := ⟨⟨_, _, rfl⟩, lw_SW q1244 q1245 q64 q1246, ⟨⟨by decide +kernel, by decide +kernel, rfl⟩, by decide⟩⟩
theorem mX0_192 : wdLV RX0 192 MX3_demand 1 := ⟨rfl, lw_V q1953 q1954 q1955 q74 q1956, ⟨⟨by decide +kernel, by decide +kernel, rfl⟩, by decide⟩⟩
theorem mX0_193 : wdLSH RX0 193 MX0_leasesOf 3 := ⟨⟨_, _, rfl⟩, lw_SW q1252 q1253 q64 q1254, ⟨⟨by decide +kernel, by decide +kernel, rfl⟩, by decide⟩⟩
theorem mX0_195 : wdLV RX0 195 MX3_leasesOf 1 := ⟨rfl, lw_V q1961 q1962 q1963 q74 q1964, ⟨⟨by decide +kernel, by decide +kernel, rfl⟩, by decide⟩⟩
theorem mX0_196 : wdLV RX0 196 MX1_lampCount 0 := ⟨rfl, lw_V q254 q255 q256 q65 q257, ⟨⟨by decide +kernel, by decide +kernel, rfl⟩, by decide⟩⟩
theorem mX0_199 : wdLV RX0 199 MX3_lampCount 0 := ⟨rfl, lw_V q1965 q1966 q1967 q74 q1968, ⟨⟨by decide +kernel, by decide +kernel, rfl⟩, by decide⟩⟩
theorem mX0_200 : wdLSH RX0 200 MX0_level 3 := ⟨⟨_, _, rfl⟩, lw_SW q1260 q1261 q64 q1262, ⟨⟨by decide +kernel, by decide +kernel, rfl⟩, by decide⟩⟩
theorem mX0_202 : wdLV RX0 202 MX3_level 1 := ⟨rfl, lw_V q1969 q1970 q1971 q74 q1972, ⟨⟨by decide +kernel, by decide +kernel, rfl⟩, by decide⟩⟩
theorem mX0_203 : wdLSH RX0 203 MX0_isLeased 3 := ⟨⟨_, _, rfl⟩, lw_SW q1268 q1269 q64 q1270, ⟨⟨by decide +kernel, by decide +kernel, rfl⟩, by decide⟩⟩
theorem mX0_205 : wdLV RX0 205 MX3_isLeased 1 := ⟨rfl, lw_V q1973 q1974 q1975 q74 q1976, ⟨⟨by decide +kernel, by decide +kernel, rfl⟩, by decide⟩⟩
theorem mX0_206 : wdLSH RX0 206 MX0_lessee 3 := ⟨⟨_, _, rfl⟩, lw_SW q1275 q1276 q64 q1277, ⟨⟨by decide +kernel, by decide +kernel, rfl⟩, by decide⟩⟩
theorem mX0_208 : wdLV RX0 208 MX3_lessee 1 := ⟨rfl, lw_V q1977 q1978 q1979 q74 q1980, ⟨⟨by decide +kernel, by decide +kernel, rfl⟩, by decide⟩⟩
theorem mX0_209 : wdLSH RX0 209 MX0_endHour 3 := ⟨⟨_, _, rfl⟩, lw_SW q1283 q1284 q64 q1285, ⟨⟨by decide +kernel, by decide +kernel, rfl⟩, by decide⟩⟩
theorem mX0_211 : wdLV RX0 211 MX3_endHour 1 := ⟨rfl, lw_V q1981 q1982 q1983 q74 q1984, ⟨⟨by decide +kernel, by decide +kernel, rfl⟩, by decide⟩⟩
theorem mX0_212 : wdLSH RX0 212 MX0_brightHours 3 := ⟨⟨_, _, rfl⟩, lw_SW q1290 q1291 q64 q1292, ⟨⟨by decide +kernel, by decide +kernel, rfl⟩, by decide⟩⟩
theorem mX0_214 : wdLV RX0 214 MX3_brightHours 1 := ⟨rfl, lw_V q1985 q1986 q1987 q74 q1988, ⟨⟨by decide +kernel, by decide +kernel, rfl⟩, by decide⟩⟩
theorem mX0_215 : wdLSH RX0 215 MX0_wasBright 3 := ⟨⟨_, _, rfl⟩, lw_SW q1297 q1298 q64 q1299, ⟨⟨by decide +kernel, by decide +kernel, rfl⟩, by decide⟩⟩
theorem mX0_217 : wdLV RX0 217 MX3_wasBright 1 := ⟨rfl, lw_V q1989 q1990 q1991 q74 q1992, ⟨⟨by decide +kernel, by decide +kernel, rfl⟩, by decide⟩⟩
theorem mX0_218 : wdLV RX0 218 MX1_leasedLamps 0 := ⟨rfl, lw_V q258 q259 q260 q65 q261, ⟨⟨by decide +kernel, by decide +kernel, rfl⟩, by decide⟩⟩
theorem mX0_221 : wdLV RX0 221 MX3_leasedLamps 0 := ⟨rfl, lw_V q1993 q1994 q1995 q74 q1996, ⟨⟨by decide +kernel, by decide +kernel, rfl⟩, by decide⟩⟩
theorem mX0_222 : wdLV RX0 222 MX1_oil 0 := ⟨rfl, lw_V q389 q390 q391 q65 q392, ⟨⟨by decide +kernel, by decide +kernel, rfl⟩, by decide⟩⟩
theorem mX0_225 : wdLV RX0 225 MX3_oil 0 := ⟨rfl, lw_V q2001 q2002 q2003 q74 q2004, ⟨⟨by decide +kernel, by decide +kernel, rfl⟩, by decide⟩⟩
theorem mX0_226 : wdLV RX0 226 MX1_consumption 0 := ⟨rfl, lw_V q393 q394 q395 q65 q396, ⟨⟨by decide +kernel, by decide +kernel, rfl⟩, by decide⟩⟩
theorem mX0_229 : wdLV RX0 229 MX3_consumption 0 := ⟨rfl, lw_V q2005 q2006 q2007 q74 q2008, ⟨⟨by decide +kernel, by decide +kernel, rfl⟩, by decide⟩⟩
theorem mX0_230 : wdLSH RX0 230 MX0_hoursOfOil 2 := ⟨⟨_, _, rfl⟩, lw_SW q1304 q1305 q64 q1306, ⟨⟨by decide +kernel, by decide +kernel, rfl⟩, by decide⟩⟩
theorem mX0_232 : wdLV RX0 232 MX3_hoursOfOil 0 := ⟨rfl, lw_V q2013 q2014 q2015 q74 q2016, ⟨⟨by decide +kernel, by decide +kernel, rfl⟩, by decide⟩⟩
theorem mX0_233 : wdLSH RX0 233 MX0_hoursOfOilByEnds 2 := ⟨⟨_, _, rfl⟩, lw_SW q1320 q1321 q64 q1322, ⟨⟨by decide +kernel, by decide +kernel, rfl⟩, by decide⟩⟩
theorem mX0_235 : wdLV RX0 235 MX3_hoursOfOilByEnds 0 := ⟨rfl, lw_V q2017 q2018 q2019 q74 q2020, ⟨⟨by decide +kernel, by decide +kernel, rfl⟩, by decide⟩⟩
theorem mX0_236 : wdLV RX0 236 MX1_brightNext 0 := ⟨rfl, lw_V q401 q402 q403 q65 q404, ⟨⟨by decide +kernel, by decide +kernel, rfl⟩, by decide⟩⟩
theorem mX0_239 : wdLV RX0 239 MX3_brightNext 0 := ⟨rfl, lw_V q2022 q2023 q2024 q74 q2025, ⟨⟨by decide +kernel, by decide +kernel, rfl⟩, by decide⟩⟩
theorem mX0_240 : wdLV RX0 240 MX1_mostBright 0 := ⟨rfl, lw_V q550 q551 q552 q65 q553, ⟨⟨by decide +kernel, by decide +kernel, rfl⟩, by decide⟩⟩
theorem mX0_243 : wdLV RX0 243 MX3_mostBright 0 := ⟨rfl, lw_V q2026 q2027 q2028 q74 q2029, ⟨⟨by decide +kernel, by decide +kernel, rfl⟩, by decide⟩⟩
theorem mX0_244 : wdLV RX0 244 MX1_mostBrightBySums 0 := ⟨rfl, lw_V q558 q559 q560 q65 q561, ⟨⟨by decide +kernel, by decide +kernel, rfl⟩, by decide⟩⟩
theorem mX0_247 : wdLV RX0 247 MX3_mostBrightBySums 0 := ⟨rfl, lw_V q2030 q2031 q2032 q74 q2033, ⟨⟨by decide +kernel, by decide +kernel, rfl⟩, by decide⟩⟩
theorem mX0_248 : wdLSH RX0 248 MX0_share 3 := ⟨⟨_, _, rfl⟩, lw_SW q1339 q1340 q64 q1341, ⟨⟨by decide +kernel, by decide +kernel, rfl⟩, by decide⟩⟩
theorem mX0_250 : wdLV RX0 250 MX3_share 1 := ⟨rfl, lw_V q2035 q2036 q2037 q74 q2038, ⟨⟨by decide +kernel, by decide +kernel, rfl⟩, by decide⟩⟩
theorem mX0_251 : wdLSH RX0 251 MX0_shareByRank 3 := ⟨⟨_, _, rfl⟩, lw_SW q1346 q1347 q64 q1348, ⟨⟨by decide +kernel, by decide +kernel, rfl⟩, by decide⟩⟩
theorem mX0_253 : wdLV RX0 253 MX3_shareByRank 1 := ⟨rfl, lw_V q2043 q2044 q2045 q74 q2046, ⟨⟨by decide +kernel, by decide +kernel, rfl⟩, by decide⟩⟩
theorem mX0_254 : wdLV RX0 254 MX1_requestCount 0 := ⟨rfl, lw_V q568 q569 q570 q65 q571, ⟨⟨by decide +kernel, by decide +kernel, rfl⟩, by decide⟩⟩
theorem mX0_257 : wdLV RX0 257 MX3_requestCount 0 := ⟨rfl, lw_V q2048 q2049 q2050 q74 q2051, ⟨⟨by decide +kernel, by decide +kernel, rfl⟩, by decide⟩⟩
theorem mX0_258 : wdLSH RX0 258 MX0_requestedLamp 3 := ⟨⟨_, _, rfl⟩, lw_SW q1353 q1354 q64 q1355, ⟨⟨by decide +kernel, by decide +kernel, rfl⟩, by decide⟩⟩
theorem mX0_260 : wdLV RX0 260 MX3_requestedLamp 1 := ⟨rfl, lw_V q2052 q2053 q2054 q74 q2055, ⟨⟨by decide +kernel, by decide +kernel, rfl⟩, by decide⟩⟩
theorem mX0_261 : wdLSH RX0 261 MX0_requestedHours 3 := ⟨⟨_, _, rfl⟩, lw_SW q1365 q1366 q64 q1367, ⟨⟨by decide +kernel, by decide +kernel, rfl⟩, by decide⟩⟩
theorem mX0_263 : wdLV RX0 263 MX3_requestedHours 1 := ⟨rfl, lw_V q2060 q2061 q2062 q74 q2063, ⟨⟨by decide +kernel, by decide +kernel, rfl⟩, by decide⟩⟩
theorem mX0_264 : wdLV RX0 264 MX1_refusedRenewals 0 := ⟨rfl, lw_V q572 q573 q574 q65 q575, ⟨⟨by decide +kernel, by decide +kernel, rfl⟩, by decide⟩⟩
theorem mX0_267 : wdLV RX0 267 MX3_refusedRenewals 0 := ⟨rfl, lw_V q2064 q2065 q2066 q74 q2067, ⟨⟨by decide +kernel, by decide +kernel, rfl⟩, by decide⟩⟩
theorem mX0_268 : wdLV RX0 268 MX1_officeCoins 0 := ⟨rfl, lw_V q576 q577 q578 q65 q579, ⟨⟨by decide +kernel, by decide +kernel, rfl⟩, by decide⟩⟩
theorem mX0_271 : wdLV RX0 271 MX3_officeCoins 0 := ⟨rfl, lw_V q2068 q2069 q2070 q74 q2071, ⟨⟨by decide +kernel, by decide +kernel, rfl⟩, by decide⟩⟩
theorem mX0_272 : wdLSH RX0 272 MX0_shipByFines 3 := ⟨⟨_, _, rfl⟩, lw_SW q1372 q1373 q64 q1374, ⟨⟨by decide +kernel, by decide +kernel, rfl⟩, by decide⟩⟩
theorem mX0_274 : wdLV RX0 274 MX3_shipByFines 1 := ⟨rfl, lw_V q2072 q2073 q2074 q74 q2075, ⟨⟨by decide +kernel, by decide +kernel, rfl⟩, by decide⟩⟩
theorem mX0_275 : wdLSH RX0 275 MX0_lampByEnd 3 := ⟨⟨_, _, rfl⟩, lw_SW q1383 q1384 q64 q1385, ⟨⟨by decide +kernel, by decide +kernel, rfl⟩, by decide⟩⟩
theorem mX0_277 : wdLV RX0 277 MX3_lampByEnd 1 := ⟨rfl, lw_V q2076 q2077 q2078 q74 q2079, ⟨⟨by decide +kernel, by decide +kernel, rfl⟩, by decide⟩⟩
theorem mX0_278 : wdLSH RX0 278 MX0_meanCoins 2 := ⟨⟨_, _, rfl⟩, lw_SW q1394 q1395 q64 q1396, ⟨⟨by decide +kernel, by decide +kernel, rfl⟩, by decide⟩⟩
theorem mX0_281 : wdLV RX0 281 MX3_meanCoins 0 := ⟨rfl, lw_V q2080 q2081 q2082 q74 q2083, ⟨⟨by decide +kernel, by decide +kernel, rfl⟩, by decide⟩⟩
theorem mX0_282 : wdLSH RX0 282 MX0_leasedShare 2 := ⟨⟨_, _, rfl⟩, lw_SW q1423 q1424 q64 q1425, ⟨⟨by decide +kernel, by decide +kernel, rfl⟩, by decide⟩⟩
theorem mX0_284 : wdLV RX0 284 MX3_leasedShare 0 := ⟨rfl, lw_V q2084 q2085 q2086 q74 q2087, ⟨⟨by decide +kernel, by decide +kernel, rfl⟩, by decide⟩⟩
theorem mX0_285 : wdLV RX0 285 MX1_isConsistent 0 := ⟨rfl, lw_V q580 q581 q582 q65 q583, ⟨⟨by decide +kernel, by decide +kernel, rfl⟩, by decide⟩⟩
theorem mX0_289 : wdLV RX0 289 MX3_isConsistent 0 := ⟨rfl, lw_V q2088 q2089 q2090 q74 q2091, ⟨⟨by decide +kernel, by decide +kernel, rfl⟩, by decide⟩⟩
theorem mX0_290 : wdLSH RX0 290 MX0_feed 3 := ⟨⟨_, _, rfl⟩, lw_SW q1430 q1431 q64 q1432, ⟨⟨by decide +kernel, by decide +kernel, rfl⟩, by decide⟩⟩
theorem mX0_293 : wdLV RX0 293 MX3_feed 1 := ⟨rfl, lw_V q2108 q2109 q2110 q74 q2111, ⟨⟨by decide +kernel, by decide +kernel, rfl⟩, by decide⟩⟩
theorem mX0_294 : wdLSH RX0 294 MX0_runCommands 2 := ⟨⟨_, _, rfl⟩, lw_SW q1438 q1439 q64 q1440, ⟨⟨by decide +kernel, by decide +kernel, rfl⟩, by decide⟩⟩
theorem mX0_296 : wdLV RX0 296 MX3_runCommands 0 := ⟨rfl, lw_V q2112 q2113 q2114 q74 q2115, ⟨⟨by decide +kernel, by decide +kernel, rfl⟩, by decide⟩⟩
theorem mX0_297 : wdLSH RX0 297 MX0_errorPosition 2 := ⟨⟨_, _, rfl⟩, lw_SW q1674 q1675 q64 q1676, ⟨⟨by decide +kernel, by decide +kernel, rfl⟩, by decide⟩⟩
theorem mX0_299 : wdLV RX0 299 MX3_errorPosition 0 := ⟨rfl, lw_V q2156 q2157 q2158 q74 q2159, ⟨⟨by decide +kernel, by decide +kernel, rfl⟩, by decide⟩⟩
theorem mX0_300 : wdLSH RX0 300 MX0_failedCommand 2 := ⟨⟨_, _, rfl⟩, lw_SW q1681 q1682 q64 q1683, ⟨⟨by decide +kernel, by decide +kernel, rfl⟩, by decide⟩⟩
theorem mX0_302 : wdLV RX0 302 MX3_failedCommand 0 := ⟨rfl, lw_V q2160 q2161 q2162 q74 q2163, ⟨⟨by decide +kernel, by decide +kernel, rfl⟩, by decide⟩⟩
theorem mX0_303 : wdLSH RX0 303 MX0_failureReason 2 := ⟨⟨_, _, rfl⟩, lw_SW q1688 q1689 q64 q1690, ⟨⟨by decide +kernel, by decide +kernel, rfl⟩, by decide⟩⟩
theorem mX0_305 : wdLV RX0 305 MX3_failureReason 0 := ⟨rfl, lw_V q2164 q2165 q2166 q74 q2167, ⟨⟨by decide +kernel, by decide +kernel, rfl⟩, by decide⟩⟩
theorem mX0_306 : wdLV RX0 306 MX1_writeLamps 0 := ⟨rfl, lw_V q629 q630 q631 q65 q632, ⟨⟨by decide +kernel, by decide +kernel, rfl⟩, by decide⟩⟩
theorem mX0_309 : wdLV RX0 309 MX3_writeLamps 0 := ⟨rfl, lw_V q2092 q2093 q2094 q74 q2095, ⟨⟨by decide +kernel, by decide +kernel, rfl⟩, by decide⟩⟩
theorem mX0_310 : wdLSH RX0 310 MX0_outputChar 3 := ⟨⟨_, _, rfl⟩, lw_SW q1695 q1696 q64 q1697, ⟨⟨by decide +kernel, by decide +kernel, rfl⟩, by decide⟩⟩
theorem mX0_312 : wdLV RX0 312 MX3_outputChar 1 := ⟨rfl, lw_V q2104 q2105 q2106 q74 q2107, ⟨⟨by decide +kernel, by decide +kernel, rfl⟩, by decide⟩⟩
theorem mX0_313 : wdLV RX0 313 MX1_undoCount 0 := ⟨rfl, lw_V q949 q950 q951 q65 q952, ⟨⟨by decide +kernel, by decide +kernel, rfl⟩, by decide⟩⟩
theorem mX0_316 : wdLV RX0 316 MX3_undoCount 0 := ⟨rfl, lw_V q2168 q2169 q2170 q74 q2171, ⟨⟨by decide +kernel, by decide +kernel, rfl⟩, by decide⟩⟩
theorem mX0_317 : wdLSH RX0 317 MX0_undo 2 := ⟨⟨_, _, rfl⟩, lw_SW q1713 q1714 q64 q1715, ⟨⟨by decide +kernel, by decide +kernel, rfl⟩, by decide⟩⟩
theorem mX0_319 : wdLV RX0 319 MX3_undo 0 := ⟨rfl, lw_V q2172 q2173 q2174 q74 q2175, ⟨⟨by decide +kernel, by decide +kernel, rfl⟩, by decide⟩⟩
theorem mX0_320 : wdLV RX0 320 MX1_save 0 := ⟨rfl, lw_V q953 q954 q955 q65 q956, ⟨⟨by decide +kernel, by decide +kernel, rfl⟩, by decide⟩⟩
theorem mX0_323 : wdLV RX0 323 MX3_save 0 := ⟨rfl, lw_V q2176 q2177 q2178 q74 q2179, ⟨⟨by decide +kernel, by decide +kernel, rfl⟩, by decide⟩⟩
theorem mX0_324 : wdLSH RX0 324 MX0_restore 2 := ⟨⟨_, _, rfl⟩, lw_SW q1724 q1725 q64 q1726, ⟨⟨by decide +kernel, by decide +kernel, rfl⟩, by decide⟩⟩
theorem mX0_326 : wdLV RX0 326 MX3_restore 0 := ⟨rfl, lw_V q2180 q2181 q2182 q74 q2183, ⟨⟨by decide +kernel, by decide +kernel, rfl⟩, by decide⟩⟩
