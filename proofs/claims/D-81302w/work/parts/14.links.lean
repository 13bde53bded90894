/-! LINKS: the words of calls and fields, by program (gen/mklinks.py) -/
set_option maxRecDepth 100000
theorem wl_X1_78 : GoodIn lw_all (va_wsS RX1 78 yX1_isIn (ws_ yX1_isIn cX1_isIn 3 (some .boolean))) := lw_S q1276 q1277 q64 q1278
theorem wd_X1_X1_isIn : yX1_isIn.cls ≠ "java/lang/invoke/MethodHandle" ∧ yX1_isIn.cls ≠ "java/lang/invoke/VarHandle" ∧ (parseMethodDescriptor yX1_isIn.desc).map (fun d => d.parameters.length) = some 3 := by decide +kernel
theorem wl_X1_85 : GoodIn lw_all (va_wsS RX1 85 yX1_isSheet (ws_ yX1_isSheet cX1_isSheet 1 (some .boolean))) := lw_S q1273 q1274 q64 q1275
theorem wd_X1_X1_isSheet : yX1_isSheet.cls ≠ "java/lang/invoke/MethodHandle" ∧ yX1_isSheet.cls ≠ "java/lang/invoke/VarHandle" ∧ (parseMethodDescriptor yX1_isSheet.desc).map (fun d => d.parameters.length) = some 1 := by decide +kernel
theorem wl_X1_89 : GoodIn lw_all (va_wsS RX1 89 yX1_isLane (ws_ yX1_isLane cX1_isLane 1 (some .boolean))) := lw_S q1279 q1280 q64 q1281
theorem wd_X1_X1_isLane : yX1_isLane.cls ≠ "java/lang/invoke/MethodHandle" ∧ yX1_isLane.cls ≠ "java/lang/invoke/VarHandle" ∧ (parseMethodDescriptor yX1_isLane.desc).map (fun d => d.parameters.length) = some 1 := by decide +kernel
theorem wl_X1_92 : GoodIn lw_all (wsV RX1 92 RX1 yX1_fails (ws_ yX1_fails cX1_fails 2 (some .int))) := lw_V q1282 q1284 qs34 q64 q1285
theorem wd_X1_X1_fails : yX1_fails.cls = RX1 ∧ yX1_fails.cls ≠ "java/lang/invoke/MethodHandle" ∧ yX1_fails.cls ≠ "java/lang/invoke/VarHandle" ∧ (parseMethodDescriptor yX1_fails.desc).map (fun d => d.parameters.length) = some 1 := by decide +kernel
theorem wl_X1_96 : GoodIn lw_all (wsV RX1 96 RX1 yX1_readAll (ws_ yX1_readAll cX1_readAll 7 (some .int))) := lw_V q1286 q1288 qs35 q64 q1289
theorem wd_X1_X1_readAll : yX1_readAll.cls = RX1 ∧ yX1_readAll.cls ≠ "java/lang/invoke/MethodHandle" ∧ yX1_readAll.cls ≠ "java/lang/invoke/VarHandle" ∧ (parseMethodDescriptor yX1_readAll.desc).map (fun d => d.parameters.length) = some 2 := by decide +kernel
theorem wl_X1_106 : GoodIn lw_all (va_wsS RX1 106 yX1_has (ws_ yX1_has cX1_has 2 (some .boolean))) := lw_S q1290 q1291 q64 q1292
theorem wd_X1_X1_has : yX1_has.cls ≠ "java/lang/invoke/MethodHandle" ∧ yX1_has.cls ≠ "java/lang/invoke/VarHandle" ∧ (parseMethodDescriptor yX1_has.desc).map (fun d => d.parameters.length) = some 2 := by decide +kernel
theorem wl_X1_110 : GoodIn lw_all (va_wsS RX1 110 yX1_of (ws_ yX1_of cX1_of 2 (some .int))) := lw_S q1313 q1314 q64 q1315
theorem wd_X1_X1_of : yX1_of.cls ≠ "java/lang/invoke/MethodHandle" ∧ yX1_of.cls ≠ "java/lang/invoke/VarHandle" ∧ (parseMethodDescriptor yX1_of.desc).map (fun d => d.parameters.length) = some 2 := by decide +kernel
theorem wl_X1_114 : GoodIn lw_all (wsV RX1 114 RX1 yX1_startOf (ws_ yX1_startOf cX1_startOf 2 (some .int))) := lw_V q1305 q1307 qs38 q64 q1308
theorem wd_X1_X1_startOf : yX1_startOf.cls = RX1 ∧ yX1_startOf.cls ≠ "java/lang/invoke/MethodHandle" ∧ yX1_startOf.cls ≠ "java/lang/invoke/VarHandle" ∧ (parseMethodDescriptor yX1_startOf.desc).map (fun d => d.parameters.length) = some 1 := by decide +kernel
theorem wl_X1_117 : GoodIn lw_all (va_wsS RX1 117 yX1_afterCall (ws_ yX1_afterCall cX1_afterCall 4 (some .int))) := lw_S q1310 q1311 q64 q1312
theorem wd_X1_X1_afterCall : yX1_afterCall.cls ≠ "java/lang/invoke/MethodHandle" ∧ yX1_afterCall.cls ≠ "java/lang/invoke/VarHandle" ∧ (parseMethodDescriptor yX1_afterCall.desc).map (fun d => d.parameters.length) = some 3 := by decide +kernel
theorem wl_X1_121 : GoodIn lw_all (va_wsS RX1 121 yX1_tokensAfter (ws_ yX1_tokensAfter cX1_tokensAfter 4 (some .int))) := lw_S q1323 q1324 q64 q1325
theorem wd_X1_X1_tokensAfter : yX1_tokensAfter.cls ≠ "java/lang/invoke/MethodHandle" ∧ yX1_tokensAfter.cls ≠ "java/lang/invoke/VarHandle" ∧ (parseMethodDescriptor yX1_tokensAfter.desc).map (fun d => d.parameters.length) = some 4 := by decide +kernel
theorem wl_X1_125 : GoodIn lw_all (wsV RX1 125 RX1 yX1_isPerson (ws_ yX1_isPerson cX1_isPerson 2 (some .boolean))) := lw_V q1297 q1299 qs36 q64 q1300
theorem wd_X1_X1_isPerson : yX1_isPerson.cls = RX1 ∧ yX1_isPerson.cls ≠ "java/lang/invoke/MethodHandle" ∧ yX1_isPerson.cls ≠ "java/lang/invoke/VarHandle" ∧ (parseMethodDescriptor yX1_isPerson.desc).map (fun d => d.parameters.length) = some 1 := by decide +kernel
theorem wl_X1_128 : GoodIn lw_all (wsV RX1 128 RX1 yX1_stateAt (ws_ yX1_stateAt cX1_stateAt 4 (some .int))) := lw_V q1301 q1303 qs37 q64 q1304
theorem wd_X1_X1_stateAt : yX1_stateAt.cls = RX1 ∧ yX1_stateAt.cls ≠ "java/lang/invoke/MethodHandle" ∧ yX1_stateAt.cls ≠ "java/lang/invoke/VarHandle" ∧ (parseMethodDescriptor yX1_stateAt.desc).map (fun d => d.parameters.length) = some 1 := by decide +kernel
theorem wl_X1_131 : GoodIn lw_all (va_wsS RX1 131 yX1_numbersOf (ws_ yX1_numbersOf cX1_numbersOf 5 (some .int))) := lw_S q1316 q1317 q64 q1318
theorem wd_X1_X1_numbersOf : yX1_numbersOf.cls ≠ "java/lang/invoke/MethodHandle" ∧ yX1_numbersOf.cls ≠ "java/lang/invoke/VarHandle" ∧ (parseMethodDescriptor yX1_numbersOf.desc).map (fun d => d.parameters.length) = some 3 := by decide +kernel
theorem wl_X1_135 : GoodIn lw_all (wsV RX1 135 RX1 yX1_tokensNow (ws_ yX1_tokensNow cX1_tokensNow 4 (some .int))) := lw_V q1319 q1321 qs39 q64 q1322
theorem wd_X1_X1_tokensNow : yX1_tokensNow.cls = RX1 ∧ yX1_tokensNow.cls ≠ "java/lang/invoke/MethodHandle" ∧ yX1_tokensNow.cls ≠ "java/lang/invoke/VarHandle" ∧ (parseMethodDescriptor yX1_tokensNow.desc).map (fun d => d.parameters.length) = some 1 := by decide +kernel
theorem wl_X1_138 : GoodIn lw_all (wsV RX1 138 RX1 yX1_learnt (ws_ yX1_learnt cX1_learnt 3 (some .int))) := lw_V q1342 q1344 qs42 q64 q1345
theorem wd_X1_X1_learnt : yX1_learnt.cls = RX1 ∧ yX1_learnt.cls ≠ "java/lang/invoke/MethodHandle" ∧ yX1_learnt.cls ≠ "java/lang/invoke/VarHandle" ∧ (parseMethodDescriptor yX1_learnt.desc).map (fun d => d.parameters.length) = some 2 := by decide +kernel
theorem wl_X1_141 : GoodIn lw_all (va_wsS RX1 141 yX1_bitsOf (ws_ yX1_bitsOf cX1_bitsOf 3 (some .int))) := lw_S q1346 q1347 q64 q1348
theorem wd_X1_X1_bitsOf : yX1_bitsOf.cls ≠ "java/lang/invoke/MethodHandle" ∧ yX1_bitsOf.cls ≠ "java/lang/invoke/VarHandle" ∧ (parseMethodDescriptor yX1_bitsOf.desc).map (fun d => d.parameters.length) = some 1 := by decide +kernel
theorem wl_X1_144 : GoodIn lw_all (wsV RX1 144 RX1 yX1_isCall (ws_ yX1_isCall cX1_isCall 2 (some .boolean))) := lw_V q1334 q1336 qs40 q64 q1337
theorem wd_X1_X1_isCall : yX1_isCall.cls = RX1 ∧ yX1_isCall.cls ≠ "java/lang/invoke/MethodHandle" ∧ yX1_isCall.cls ≠ "java/lang/invoke/VarHandle" ∧ (parseMethodDescriptor yX1_isCall.desc).map (fun d => d.parameters.length) = some 1 := by decide +kernel
theorem wl_X1_147 : GoodIn lw_all (wsV RX1 147 RX1 yX1_kindOf (ws_ yX1_kindOf cX1_kindOf 4 (some .int))) := lw_V q1338 q1340 qs41 q64 q1341
theorem wd_X1_X1_kindOf : yX1_kindOf.cls = RX1 ∧ yX1_kindOf.cls ≠ "java/lang/invoke/MethodHandle" ∧ yX1_kindOf.cls ≠ "java/lang/invoke/VarHandle" ∧ (parseMethodDescriptor yX1_kindOf.desc).map (fun d => d.parameters.length) = some 1 := by decide +kernel
theorem wl_X1_150 : GoodIn lw_all (va_wsS RX1 150 yX1_isRule (ws_ yX1_isRule cX1_isRule 1 (some .boolean))) := lw_S q1357 q1358 q64 q1359
theorem wd_X1_X1_isRule : yX1_isRule.cls ≠ "java/lang/invoke/MethodHandle" ∧ yX1_isRule.cls ≠ "java/lang/invoke/VarHandle" ∧ (parseMethodDescriptor yX1_isRule.desc).map (fun d => d.parameters.length) = some 1 := by decide +kernel
theorem wl_X1_153 : GoodIn lw_all (va_wsS RX1 153 yX1_mayRing (ws_ yX1_mayRing cX1_mayRing 6 (some .boolean))) := lw_S q1360 q1361 q64 q1362
theorem wd_X1_X1_mayRing : yX1_mayRing.cls ≠ "java/lang/invoke/MethodHandle" ∧ yX1_mayRing.cls ≠ "java/lang/invoke/VarHandle" ∧ (parseMethodDescriptor yX1_mayRing.desc).map (fun d => d.parameters.length) = some 6 := by decide +kernel
theorem wl_X1_158 : GoodIn lw_all (va_wsS RX1 158 yX1_placeOf (ws_ yX1_placeOf cX1_placeOf 7 (some .int))) := lw_S q1380 q1381 q64 q1382
theorem wd_X1_X1_placeOf : yX1_placeOf.cls ≠ "java/lang/invoke/MethodHandle" ∧ yX1_placeOf.cls ≠ "java/lang/invoke/VarHandle" ∧ (parseMethodDescriptor yX1_placeOf.desc).map (fun d => d.parameters.length) = some 2 := by decide +kernel
theorem wl_X1_167 : GoodIn lw_all (wsV RX1 167 RX1 yX1_areExperts (ws_ yX1_areExperts cX1_areExperts 4 (some .boolean))) := lw_V q1392 q1394 qs48 q64 q1395
theorem wd_X1_X1_areExperts : yX1_areExperts.cls = RX1 ∧ yX1_areExperts.cls ≠ "java/lang/invoke/MethodHandle" ∧ yX1_areExperts.cls ≠ "java/lang/invoke/VarHandle" ∧ (parseMethodDescriptor yX1_areExperts.desc).map (fun d => d.parameters.length) = some 2 := by decide +kernel
theorem wl_X1_170 : GoodIn lw_all (wsV RX1 170 RX1 yX1_open (ws_ yX1_open cX1_open 5 none)) := lw_V q1384 q1386 qs46 q64 q1387
theorem wd_X1_X1_open : yX1_open.cls = RX1 ∧ yX1_open.cls ≠ "java/lang/invoke/MethodHandle" ∧ yX1_open.cls ≠ "java/lang/invoke/VarHandle" ∧ (parseMethodDescriptor yX1_open.desc).map (fun d => d.parameters.length) = some 3 := by decide +kernel
theorem wl_X1_174 : GoodIn lw_all (wsV RX1 174 RX1 yX1_close (ws_ yX1_close cX1_close 4 none)) := lw_V q1388 q1390 qs47 q64 q1391
theorem wd_X1_X1_close : yX1_close.cls = RX1 ∧ yX1_close.cls ≠ "java/lang/invoke/MethodHandle" ∧ yX1_close.cls ≠ "java/lang/invoke/VarHandle" ∧ (parseMethodDescriptor yX1_close.desc).map (fun d => d.parameters.length) = some 2 := by decide +kernel
theorem wl_X1_181 : GoodIn lw_all (wsV RX1 181 RX1 yX1_add (ws_ yX1_add cX1_add 3 none)) := lw_V q1396 q1398 qs49 q64 q1399
theorem wd_X1_X1_add : yX1_add.cls = RX1 ∧ yX1_add.cls ≠ "java/lang/invoke/MethodHandle" ∧ yX1_add.cls ≠ "java/lang/invoke/VarHandle" ∧ (parseMethodDescriptor yX1_add.desc).map (fun d => d.parameters.length) = some 2 := by decide +kernel
theorem wl_X1_184 : GoodIn lw_all (wsV RX1 184 RX1 yX1_lookAt (ws_ yX1_lookAt cX1_lookAt 4 none)) := lw_V q1372 q1374 qs44 q64 q1375
theorem wd_X1_X1_lookAt : yX1_lookAt.cls = RX1 ∧ yX1_lookAt.cls ≠ "java/lang/invoke/MethodHandle" ∧ yX1_lookAt.cls ≠ "java/lang/invoke/VarHandle" ∧ (parseMethodDescriptor yX1_lookAt.desc).map (fun d => d.parameters.length) = some 3 := by decide +kernel
theorem wl_X1_188 : GoodIn lw_all (wsV RX1 188 RX1 yX1_lay (ws_ yX1_lay cX1_lay 13 (some .int))) := lw_V q1376 q1378 qs45 q64 q1379
theorem wd_X1_X1_lay : yX1_lay.cls = RX1 ∧ yX1_lay.cls ≠ "java/lang/invoke/MethodHandle" ∧ yX1_lay.cls ≠ "java/lang/invoke/VarHandle" ∧ (parseMethodDescriptor yX1_lay.desc).map (fun d => d.parameters.length) = some 2 := by decide +kernel
theorem wl_X1_191 : GoodIn lw_all (wsV RX1 191 RX1 yX1_layNow (ws_ yX1_layNow cX1_layNow 2 (some .int))) := lw_V q1368 q1370 qs43 q64 q1371
theorem wd_X1_X1_layNow : yX1_layNow.cls = RX1 ∧ yX1_layNow.cls ≠ "java/lang/invoke/MethodHandle" ∧ yX1_layNow.cls ≠ "java/lang/invoke/VarHandle" ∧ (parseMethodDescriptor yX1_layNow.desc).map (fun d => d.parameters.length) = some 1 := by decide +kernel
theorem wl_X1_194 : GoodIn lw_all (wsV RX1 194 RX1 yX1_verdictAt (ws_ yX1_verdictAt cX1_verdictAt 2 (some .int))) := lw_V q1404 q1406 qs50 q64 q1407
theorem wd_X1_X1_verdictAt : yX1_verdictAt.cls = RX1 ∧ yX1_verdictAt.cls ≠ "java/lang/invoke/MethodHandle" ∧ yX1_verdictAt.cls ≠ "java/lang/invoke/VarHandle" ∧ (parseMethodDescriptor yX1_verdictAt.desc).map (fun d => d.parameters.length) = some 1 := by decide +kernel
theorem wl_X1_203 : GoodIn lw_all (wsV RX1 203 RX1 yX1_layRow (ws_ yX1_layRow cX1_layRow 5 (some .int))) := lw_V q1428 q1430 qs52 q64 q1431
theorem wd_X1_X1_layRow : yX1_layRow.cls = RX1 ∧ yX1_layRow.cls ≠ "java/lang/invoke/MethodHandle" ∧ yX1_layRow.cls ≠ "java/lang/invoke/VarHandle" ∧ (parseMethodDescriptor yX1_layRow.desc).map (fun d => d.parameters.length) = some 1 := by decide +kernel
theorem wl_X1_206 : GoodIn lw_all (wsV RX1 206 RX1 yX1_seesAlike (ws_ yX1_seesAlike cX1_seesAlike 7 (some .boolean))) := lw_V q1432 q1434 qs53 q64 q1435
theorem wd_X1_X1_seesAlike : yX1_seesAlike.cls = RX1 ∧ yX1_seesAlike.cls ≠ "java/lang/invoke/MethodHandle" ∧ yX1_seesAlike.cls ≠ "java/lang/invoke/VarHandle" ∧ (parseMethodDescriptor yX1_seesAlike.desc).map (fun d => d.parameters.length) = some 1 := by decide +kernel
theorem wl_X1_209 : GoodIn lw_all (wsV RX1 209 RX1 yX1_layAlike (ws_ yX1_layAlike cX1_layAlike 5 none)) := lw_V q1424 q1426 qs51 q64 q1427
theorem wd_X1_X1_layAlike : yX1_layAlike.cls = RX1 ∧ yX1_layAlike.cls ≠ "java/lang/invoke/MethodHandle" ∧ yX1_layAlike.cls ≠ "java/lang/invoke/VarHandle" ∧ (parseMethodDescriptor yX1_layAlike.desc).map (fun d => d.parameters.length) = some 1 := by decide +kernel
theorem wl_X1_213 : GoodIn lw_all (va_wsS RX1 213 yX1_isJoined (ws_ yX1_isJoined cX1_isJoined 6 (some .boolean))) := lw_S q1452 q1453 q64 q1454
theorem wd_X1_X1_isJoined : yX1_isJoined.cls ≠ "java/lang/invoke/MethodHandle" ∧ yX1_isJoined.cls ≠ "java/lang/invoke/VarHandle" ∧ (parseMethodDescriptor yX1_isJoined.desc).map (fun d => d.parameters.length) = some 2 := by decide +kernel
theorem wl_X1_217 : GoodIn lw_all (wsV RX1 217 RX1 yX1_layOther (ws_ yX1_layOther cX1_layOther 4 none)) := lw_V q1459 q1461 qs54 q64 q1462
theorem wd_X1_X1_layOther : yX1_layOther.cls = RX1 ∧ yX1_layOther.cls ≠ "java/lang/invoke/MethodHandle" ∧ yX1_layOther.cls ≠ "java/lang/invoke/VarHandle" ∧ (parseMethodDescriptor yX1_layOther.desc).map (fun d => d.parameters.length) = some 2 := by decide +kernel
theorem wl_X1_220 : GoodIn lw_all (wsV RX1 220 RX1 yX1_verdictFrom (ws_ yX1_verdictFrom cX1_verdictFrom 4 (some .int))) := lw_V q1471 q1473 qs55 q64 q1474
theorem wd_X1_X1_verdictFrom : yX1_verdictFrom.cls = RX1 ∧ yX1_verdictFrom.cls ≠ "java/lang/invoke/MethodHandle" ∧ yX1_verdictFrom.cls ≠ "java/lang/invoke/VarHandle" ∧ (parseMethodDescriptor yX1_verdictFrom.desc).map (fun d => d.parameters.length) = some 3 := by decide +kernel
theorem wl_X1_223 : GoodIn lw_all (wsV RX1 223 RX1 yX1_layNet (ws_ yX1_layNet cX1_layNet 6 none)) := lw_V q1479 q1481 qs56 q64 q1482
theorem wd_X1_X1_layNet : yX1_layNet.cls = RX1 ∧ yX1_layNet.cls ≠ "java/lang/invoke/MethodHandle" ∧ yX1_layNet.cls ≠ "java/lang/invoke/VarHandle" ∧ (parseMethodDescriptor yX1_layNet.desc).map (fun d => d.parameters.length) = some 2 := by decide +kernel
theorem wl_X1_226 : GoodIn lw_all (wsV RX1 226 RX1 yX1_lost (ws_ yX1_lost cX1_lost 2 (some .long))) := lw_V q1503 q1505 qs57 q64 q1506
theorem wd_X1_X1_lost : yX1_lost.cls = RX1 ∧ yX1_lost.cls ≠ "java/lang/invoke/MethodHandle" ∧ yX1_lost.cls ≠ "java/lang/invoke/VarHandle" ∧ (parseMethodDescriptor yX1_lost.desc).map (fun d => d.parameters.length) = some 1 := by decide +kernel
theorem wl_X1_233 : GoodIn lw_all (wsV RX1 233 RX1 yX1_begins (ws_ yX1_begins cX1_begins 2 none)) := lw_V q1515 q1517 qs58 q64 q1518
theorem wd_X1_X1_begins : yX1_begins.cls = RX1 ∧ yX1_begins.cls ≠ "java/lang/invoke/MethodHandle" ∧ yX1_begins.cls ≠ "java/lang/invoke/VarHandle" ∧ (parseMethodDescriptor yX1_begins.desc).map (fun d => d.parameters.length) = some 1 := by decide +kernel
theorem fl_X1_9 : Cond.fieldLink RX1 9 RX1 (TX1 2).2.1 (TX1 2).2.2.1 ∈ lw_all := q1180
theorem fl_X1_13 : Cond.fieldLink RX1 13 RX1 (TX1 3).2.1 (TX1 3).2.2.1 ∈ lw_all := q1181
theorem fl_X1_16 : Cond.fieldLink RX1 16 RX1 (TX1 4).2.1 (TX1 4).2.2.1 ∈ lw_all := q1182
theorem fl_X1_19 : Cond.fieldLink RX1 19 RX1 (TX1 6).2.1 (TX1 6).2.2.1 ∈ lw_all := q1184
theorem fl_X1_22 : Cond.fieldLink RX1 22 RX1 (TX1 7).2.1 (TX1 7).2.2.1 ∈ lw_all := q1185
theorem fl_X1_25 : Cond.fieldLink RX1 25 RX1 (TX1 10).2.1 (TX1 10).2.2.1 ∈ lw_all := q1188
theorem fl_X1_28 : Cond.fieldLink RX1 28 RX1 (TX1 11).2.1 (TX1 11).2.2.1 ∈ lw_all := q1189
theorem fl_X1_32 : Cond.fieldLink RX1 32 RX1 (TX1 12).2.1 (TX1 12).2.2.1 ∈ lw_all := q1190
theorem fl_X1_35 : Cond.fieldLink RX1 35 RX1 (TX1 13).2.1 (TX1 13).2.2.1 ∈ lw_all := q1191
theorem fl_X1_39 : Cond.fieldLink RX1 39 RX1 (TX1 14).2.1 (TX1 14).2.2.1 ∈ lw_all := q1192
theorem fl_X1_42 : Cond.fieldLink RX1 42 RX1 (TX1 15).2.1 (TX1 15).2.2.1 ∈ lw_all := q1193
theorem fl_X1_45 : Cond.fieldLink RX1 45 RX1 (TX1 16).2.1 (TX1 16).2.2.1 ∈ lw_all := q1194
theorem fl_X1_48 : Cond.fieldLink RX1 48 RX1 (TX1 18).2.1 (TX1 18).2.2.1 ∈ lw_all := q1196
theorem fl_X1_51 : Cond.fieldLink RX1 51 RX1 (TX1 19).2.1 (TX1 19).2.2.1 ∈ lw_all := q1197
theorem fl_X1_54 : Cond.fieldLink RX1 54 RX1 (TX1 20).2.1 (TX1 20).2.2.1 ∈ lw_all := q1198
theorem fl_X1_57 : Cond.fieldLink RX1 57 RX1 (TX1 21).2.1 (TX1 21).2.2.1 ∈ lw_all := q1199
theorem fl_X1_60 : Cond.fieldLink RX1 60 RX1 (TX1 24).2.1 (TX1 24).2.2.1 ∈ lw_all := q1202
theorem fl_X1_63 : Cond.fieldLink RX1 63 RX1 (TX1 25).2.1 (TX1 25).2.2.1 ∈ lw_all := q1203
theorem fl_X1_66 : Cond.fieldLink RX1 66 RX1 (TX1 28).2.1 (TX1 28).2.2.1 ∈ lw_all := q1206
theorem fl_X1_69 : Cond.fieldLink RX1 69 RX1 (TX1 29).2.1 (TX1 29).2.2.1 ∈ lw_all := q1207
theorem fl_X1_72 : Cond.fieldLink RX1 72 RX1 (TX1 0).2.1 (TX1 0).2.2.1 ∈ lw_all := q1178
theorem fl_X1_82 : Cond.fieldLink RX1 82 RX1 (TX1 5).2.1 (TX1 5).2.2.1 ∈ lw_all := q1183
theorem fl_X1_100 : Cond.fieldLink RX1 100 RX1 (TX1 8).2.1 (TX1 8).2.2.1 ∈ lw_all := q1186
theorem fl_X1_103 : Cond.fieldLink RX1 103 RX1 (TX1 9).2.1 (TX1 9).2.2.1 ∈ lw_all := q1187
theorem fl_X1_161 : Cond.fieldLink RX1 161 RX1 (TX1 17).2.1 (TX1 17).2.2.1 ∈ lw_all := q1195
theorem fl_X1_164 : Cond.fieldLink RX1 164 RX1 (TX1 22).2.1 (TX1 22).2.2.1 ∈ lw_all := q1200
theorem fl_X1_178 : Cond.fieldLink RX1 178 RX1 (TX1 23).2.1 (TX1 23).2.2.1 ∈ lw_all := q1201
theorem fl_X1_197 : Cond.fieldLink RX1 197 RX1 (TX1 26).2.1 (TX1 26).2.2.1 ∈ lw_all := q1204
theorem fl_X1_200 : Cond.fieldLink RX1 200 RX1 (TX1 27).2.1 (TX1 27).2.2.1 ∈ lw_all := q1205
theorem fl_X1_230 : Cond.fieldLink RX1 230 RX1 (TX1 1).2.1 (TX1 1).2.2.1 ∈ lw_all := q1179
