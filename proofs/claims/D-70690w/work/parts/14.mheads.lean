/-! the reference's entries: fields and methods by their numbers -/
theorem lkX6_122 : Cond.fieldLink RX6 122 RX6 (TX6 2).2.1 (TX6 2).2.2.1 ∈ lw_all := q1143
theorem lkX6_125 : Cond.fieldLink RX6 125 RX6 (TX6 6).2.1 (TX6 6).2.2.1 ∈ lw_all := q1147
theorem lkX6_13 : Cond.fieldLink RX6 13 RX6 (TX6 1).2.1 (TX6 1).2.2.1 ∈ lw_all := q1142
theorem lkX6_156 : Cond.fieldLink RX6 156 RX6 (TX6 11).2.1 (TX6 11).2.2.1 ∈ lw_all := q1152
theorem lkX6_159 : Cond.fieldLink RX6 159 RX6 (TX6 14).2.1 (TX6 14).2.2.1 ∈ lw_all := q1155
theorem lkX6_16 : Cond.fieldLink RX6 16 RX6 (TX6 3).2.1 (TX6 3).2.2.1 ∈ lw_all := q1144
theorem lkX6_178 : Cond.fieldLink RX6 178 RX6 (TX6 16).2.1 (TX6 16).2.2.1 ∈ lw_all := q1157
theorem lkX6_185 : Cond.fieldLink RX6 185 RX6 (TX6 26).2.1 (TX6 26).2.2.1 ∈ lw_all := q1167
theorem lkX6_188 : Cond.fieldLink RX6 188 RX6 (TX6 27).2.1 (TX6 27).2.2.1 ∈ lw_all := q1168
theorem lkX6_19 : Cond.fieldLink RX6 19 RX6 (TX6 4).2.1 (TX6 4).2.2.1 ∈ lw_all := q1145
theorem lkX6_191 : Cond.fieldLink RX6 191 RX6 (TX6 25).2.1 (TX6 25).2.2.1 ∈ lw_all := q1166
theorem lkX6_22 : Cond.fieldLink RX6 22 RX6 (TX6 5).2.1 (TX6 5).2.2.1 ∈ lw_all := q1146
theorem lkX6_248 : Cond.fieldLink RX6 248 RX6 (TX6 29).2.1 (TX6 29).2.2.1 ∈ lw_all := q1170
theorem lkX6_25 : Cond.fieldLink RX6 25 RX6 (TX6 7).2.1 (TX6 7).2.2.1 ∈ lw_all := q1148
theorem lkX6_28 : Cond.fieldLink RX6 28 RX6 (TX6 8).2.1 (TX6 8).2.2.1 ∈ lw_all := q1149
theorem lkX6_283 : Cond.fieldLink RX6 283 RX6 (TX6 39).2.1 (TX6 39).2.2.1 ∈ lw_all := q1180
theorem lkX6_31 : Cond.fieldLink RX6 31 RX6 (TX6 12).2.1 (TX6 12).2.2.1 ∈ lw_all := q1153
theorem lkX6_34 : Cond.fieldLink RX6 34 RX6 (TX6 13).2.1 (TX6 13).2.2.1 ∈ lw_all := q1154
theorem lkX6_37 : Cond.fieldLink RX6 37 RX6 (TX6 15).2.1 (TX6 15).2.2.1 ∈ lw_all := q1156
theorem lkX6_40 : Cond.fieldLink RX6 40 RX6 (TX6 17).2.1 (TX6 17).2.2.1 ∈ lw_all := q1158
theorem lkX6_44 : Cond.fieldLink RX6 44 RX6 (TX6 18).2.1 (TX6 18).2.2.1 ∈ lw_all := q1159
theorem lkX6_47 : Cond.fieldLink RX6 47 RX6 (TX6 19).2.1 (TX6 19).2.2.1 ∈ lw_all := q1160
theorem lkX6_50 : Cond.fieldLink RX6 50 RX6 (TX6 20).2.1 (TX6 20).2.2.1 ∈ lw_all := q1161
theorem lkX6_53 : Cond.fieldLink RX6 53 RX6 (TX6 21).2.1 (TX6 21).2.2.1 ∈ lw_all := q1162
theorem lkX6_56 : Cond.fieldLink RX6 56 RX6 (TX6 22).2.1 (TX6 22).2.2.1 ∈ lw_all := q1163
theorem lkX6_59 : Cond.fieldLink RX6 59 RX6 (TX6 23).2.1 (TX6 23).2.2.1 ∈ lw_all := q1164
theorem lkX6_62 : Cond.fieldLink RX6 62 RX6 (TX6 24).2.1 (TX6 24).2.2.1 ∈ lw_all := q1165
theorem lkX6_65 : Cond.fieldLink RX6 65 RX6 (TX6 28).2.1 (TX6 28).2.2.1 ∈ lw_all := q1169
theorem lkX6_68 : Cond.fieldLink RX6 68 RX6 (TX6 30).2.1 (TX6 30).2.2.1 ∈ lw_all := q1171
theorem lkX6_7 : Cond.fieldLink RX6 7 RX6 (TX6 0).2.1 (TX6 0).2.2.1 ∈ lw_all := q1141
theorem lkX6_71 : Cond.fieldLink RX6 71 RX6 (TX6 31).2.1 (TX6 31).2.2.1 ∈ lw_all := q1172
theorem lkX6_74 : Cond.fieldLink RX6 74 RX6 (TX6 32).2.1 (TX6 32).2.2.1 ∈ lw_all := q1173
theorem lkX6_77 : Cond.fieldLink RX6 77 RX6 (TX6 33).2.1 (TX6 33).2.2.1 ∈ lw_all := q1174
theorem lkX6_80 : Cond.fieldLink RX6 80 RX6 (TX6 34).2.1 (TX6 34).2.2.1 ∈ lw_all := q1175
theorem lkX6_83 : Cond.fieldLink RX6 83 RX6 (TX6 35).2.1 (TX6 35).2.2.1 ∈ lw_all := q1176
theorem lkX6_86 : Cond.fieldLink RX6 86 RX6 (TX6 36).2.1 (TX6 36).2.2.1 ∈ lw_all := q1177
theorem lkX6_89 : Cond.fieldLink RX6 89 RX6 (TX6 37).2.1 (TX6 37).2.2.1 ∈ lw_all := q1178
theorem lkX6_92 : Cond.fieldLink RX6 92 RX6 (TX6 38).2.1 (TX6 38).2.2.1 ∈ lw_all := q1179
theorem lkX6_95 : Cond.fieldLink RX6 95 RX6 (TX6 9).2.1 (TX6 9).2.2.1 ∈ lw_all := q1150
theorem lkX6_99 : Cond.fieldLink RX6 99 RX6 (TX6 10).2.1 (TX6 10).2.2.1 ∈ lw_all := q1151
theorem cwX6_104 : GoodIn lw_all (va_wsS RX6 104 yX6_in (ws_ yX6_in cX6_in 3 (some .boolean))) := lw_S q1269 q1270 q89 q1271
theorem cwX6_108 : GoodIn lw_all (va_wsS RX6 108 yX6_isText (ws_ yX6_isText cX6_isText 1 (some .boolean))) := lw_S q1266 q1267 q89 q1268
theorem cwX6_112 : GoodIn lw_all (wsV RX6 112 RX6 yX6_byteAt (ws_ yX6_byteAt cX6_byteAt 3 (some .int))) := lw_V q1300 q1302 qs40 q89 q1303
theorem cwX6_116 : GoodIn lw_all (wsV RX6 116 RX6 yX6_figureAt (ws_ yX6_figureAt cX6_figureAt 4 (some .int))) := lw_V q1296 q1298 qs39 q89 q1299
theorem cwX6_119 : GoodIn lw_all (wsV RX6 119 RX6 yX6_letterAt (ws_ yX6_letterAt cX6_letterAt 4 (some .int))) := lw_V q1304 q1306 qs41 q89 q1307
theorem cwX6_128 : GoodIn lw_all (wsV RX6 128 RX6 yX6_readsSaver (ws_ yX6_readsSaver cX6_readsSaver 6 (some .int))) := lw_V q1292 q1294 qs38 q89 q1295
theorem cwX6_131 : GoodIn lw_all (wsV RX6 131 RX6 yX6_readsPartner (ws_ yX6_readsPartner cX6_readsPartner 5 (some .int))) := lw_V q1308 q1310 qs42 q89 q1311
theorem cwX6_134 : GoodIn lw_all (wsV RX6 134 RX6 yX6_readsParts (ws_ yX6_readsParts cX6_readsParts 6 (some .int))) := lw_V q1288 q1290 qs37 q89 q1291
theorem cwX6_138 : GoodIn lw_all (wsV RX6 138 RX6 yX6_faultOf (ws_ yX6_faultOf cX6_faultOf 4 (some .int))) := lw_V q1284 q1286 qs36 q89 q1287
theorem cwX6_141 : GoodIn lw_all (wsV RX6 141 RX6 yX6_reads (ws_ yX6_reads cX6_reads 2 none)) := lw_V q1320 q1322 qs44 q89 q1323
theorem cwX6_144 : GoodIn lw_all (wsV RX6 144 RX6 yX6_isSaver (ws_ yX6_isSaver cX6_isSaver 2 (some .boolean))) := lw_V q1316 q1318 qs43 q89 q1319
theorem cwX6_147 : GoodIn lw_all (wsV RX6 147 RX6 yX6_saverOf (ws_ yX6_saverOf cX6_saverOf 3 (some .int))) := lw_V q1324 q1326 qs45 q89 q1327
theorem cwX6_150 : GoodIn lw_all (wsV RX6 150 RX6 yX6_isPartner (ws_ yX6_isPartner cX6_isPartner 2 (some .boolean))) := lw_V q1332 q1334 qs46 q89 q1335
theorem cwX6_153 : GoodIn lw_all (va_wsS RX6 153 yX6_isDay (ws_ yX6_isDay cX6_isDay 1 (some .boolean))) := lw_S q1344 q1345 q89 q1346
theorem cwX6_162 : GoodIn lw_all (va_wsS RX6 162 yX6_isSheet (ws_ yX6_isSheet cX6_isSheet 1 (some .boolean))) := lw_S q1359 q1360 q89 q1361
theorem cwX6_165 : GoodIn lw_all (wsV RX6 165 RX6 yX6_meets (ws_ yX6_meets cX6_meets 2 (some .int))) := lw_V q1362 q1364 qs47 q89 q1365
theorem cwX6_168 : GoodIn lw_all (wsV RX6 168 RX6 yX6_call (ws_ yX6_call cX6_call 3 (some .int))) := lw_V q1366 q1341 q1342 q89 q1343
theorem cwX6_171 : GoodIn lw_all (wsV RX6 171 RX6 yX6_noCalls (ws_ yX6_noCalls cX6_noCalls 2 none)) := lw_V q1387 q1389 qs52 q89 q1390
theorem cwX6_174 : GoodIn lw_all (va_wsS RX6 174 yX6_isIn (ws_ yX6_isIn cX6_isIn 2 (some .boolean))) := lw_S q1391 q1392 q89 q1393
theorem cwX6_181 : GoodIn lw_all (wsV RX6 181 RX6 yX6_lays (ws_ yX6_lays cX6_lays 5 none)) := lw_V q1383 q1385 qs51 q89 q1386
theorem cwX6_194 : GoodIn lw_all (wsV RX6 194 RX6 yX6_hears (ws_ yX6_hears cX6_hears 6 none)) := lw_V q1402 q1404 qs55 q89 q1405
theorem cwX6_197 : GoodIn lw_all (wsV RX6 197 RX6 yX6_goesBy (ws_ yX6_goesBy cX6_goesBy 4 none)) := lw_V q1398 q1400 qs54 q89 q1401
theorem cwX6_201 : GoodIn lw_all (wsV RX6 201 RX6 yX6_asTold (ws_ yX6_asTold cX6_asTold 1 none)) := lw_V q1379 q1381 qs50 q89 q1382
theorem cwX6_204 : GoodIn lw_all (wsV RX6 204 RX6 yX6_runs (ws_ yX6_runs cX6_runs 2 none)) := lw_V q1394 q1396 qs53 q89 q1397
theorem cwX6_207 : GoodIn lw_all (wsV RX6 207 RX6 yX6_runsTold (ws_ yX6_runsTold cX6_runsTold 1 none)) := lw_V q1375 q1377 qs49 q89 q1378
theorem cwX6_210 : GoodIn lw_all (wsV RX6 210 RX6 yX6_allOwed (ws_ yX6_allOwed cX6_allOwed 4 (some .int))) := lw_V q1406 q1408 qs56 q89 q1409
theorem cwX6_213 : GoodIn lw_all (wsV RX6 213 RX6 yX6_owedOf (ws_ yX6_owedOf cX6_owedOf 3 (some .int))) := lw_V q1371 q1373 qs48 q89 q1374
theorem cwX6_216 : GoodIn lw_all (wsV RX6 216 RX6 yX6_heardOf (ws_ yX6_heardOf cX6_heardOf 4 (some .int))) := lw_V q1414 q1416 qs57 q89 q1417
theorem cwX6_220 : GoodIn lw_all (wsV RX6 220 RX6 yX6_leftOf (ws_ yX6_leftOf cX6_leftOf 3 (some .int))) := lw_V q1422 q1424 qs58 q89 q1425
theorem cwX6_223 : GoodIn lw_all (wsV RX6 223 RX6 yX6_runOf (ws_ yX6_runOf cX6_runOf 1 (some .int))) := lw_V q1430 q1432 qs59 q89 q1433
theorem cwX6_227 : GoodIn lw_all (wsV RX6 227 RX6 yX6_yawnOf (ws_ yX6_yawnOf cX6_yawnOf 2 (some .int))) := lw_V q1438 q1440 qs60 q89 q1441
theorem cwX6_230 : GoodIn lw_all (wsV RX6 230 RX6 yX6_allHeard (ws_ yX6_allHeard cX6_allHeard 4 (some .int))) := lw_V q1450 q1452 qs62 q89 q1453
theorem cwX6_233 : GoodIn lw_all (wsV RX6 233 RX6 yX6_mostNow (ws_ yX6_mostNow cX6_mostNow 3 (some .int))) := lw_V q1446 q1448 qs61 q89 q1449
theorem cwX6_236 : GoodIn lw_all (wsV RX6 236 RX6 yX6_holdNow (ws_ yX6_holdNow cX6_holdNow 3 (some .int))) := lw_V q1458 q1460 qs63 q89 q1461
theorem cwX6_239 : GoodIn lw_all (wsV RX6 239 RX6 yX6_drawOf (ws_ yX6_drawOf cX6_drawOf 8 (some .int))) := lw_V q1466 q1468 qs64 q89 q1469
theorem cwX6_242 : GoodIn lw_all (wsV RX6 242 RX6 yX6_hireOf (ws_ yX6_hireOf cX6_hireOf 8 (some .int))) := lw_V q1474 q1476 qs65 q89 q1477
theorem cwX6_245 : GoodIn lw_all (wsV RX6 245 RX6 yX6_matchNow (ws_ yX6_matchNow cX6_matchNow 7 (some .int))) := lw_V q1482 q1484 qs66 q89 q1485
theorem cwX6_251 : GoodIn lw_all (wsV RX6 251 RX6 yX6_isSeen (ws_ yX6_isSeen cX6_isSeen 3 (some .boolean))) := lw_V q1502 q1504 qs68 q89 q1505
theorem cwX6_255 : GoodIn lw_all (wsV RX6 255 RX6 yX6_neverNow (ws_ yX6_neverNow cX6_neverNow 3 (some .int))) := lw_V q1498 q1500 qs67 q89 q1501
theorem cwX6_258 : GoodIn lw_all (wsV RX6 258 RX6 yX6_sumsBy (ws_ yX6_sumsBy cX6_sumsBy 6 (some .int))) := lw_V q1510 q1512 qs69 q89 q1513
theorem cwX6_261 : GoodIn lw_all (wsV RX6 261 RX6 yX6_ratesNow (ws_ yX6_ratesNow cX6_ratesNow 3 (some .int))) := lw_V q1518 q1520 qs70 q89 q1521
theorem cwX6_264 : GoodIn lw_all (wsV RX6 264 RX6 yX6_askOf (ws_ yX6_askOf cX6_askOf 10 (some .int))) := lw_V q1526 q1528 qs71 q89 q1529
theorem cwX6_267 : GoodIn lw_all (va_wsS RX6 267 yX6_lowest (ws_ yX6_lowest cX6_lowest 11 (some .long))) := lw_S q1538 q1539 q89 q1540
theorem cwX6_271 : GoodIn lw_all (wsV RX6 271 RX6 yX6_peaceOf (ws_ yX6_peaceOf cX6_peaceOf 9 (some .long))) := lw_V q1534 q1536 qs72 q89 q1537
theorem cwX6_275 : GoodIn lw_all (va_wsS RX6 275 yX6_no (ws_ yX6_no cX6_no 1 (some .long))) := lw_S q1541 q1542 q89 q1543
theorem cwX6_280 : GoodIn lw_all (wsV RX6 280 RX6 yX6_termOf (ws_ yX6_termOf cX6_termOf 6 (some .int))) := lw_V q1549 q1551 qs73 q89 q1552
theorem cwX6_286 : GoodIn lw_all (wsV RX6 286 RX6 yX6_lacks (ws_ yX6_lacks cX6_lacks 4 (some .int))) := lw_V q1566 q1568 qs74 q89 q1569
theorem cwX6_289 : GoodIn lw_all (wsV RX6 289 RX6 yX6_keep (ws_ yX6_keep cX6_keep 4 none)) := lw_V q1570 q1572 qs75 q89 q1573
theorem cwX6_294 : GoodIn lw_all (wsV RX6 294 RX6 yX6_sumOf (ws_ yX6_sumOf cX6_sumOf 4 (some .int))) := lw_V q1591 q1593 qs76 q89 q1594
theorem cwX6_301 : GoodIn lw_all (wsV RX6 301 RX6 yX6_count (ws_ yX6_count cX6_count 2 (some .int))) := lw_V q1601 q1588 q1589 q89 q1590
theorem cwX6_304 : GoodIn lw_all (wsV RX6 304 RX6 yX6_saverDigest (ws_ yX6_saverDigest cX6_saverDigest 7 (some .long))) := lw_V q1602 q1604 qs77 q89 q1605
theorem cwX6_308 : GoodIn lw_all (wsV RX6 308 RX6 yX6_partnerDigest (ws_ yX6_partnerDigest cX6_partnerDigest 6 (some .long))) := lw_V q1606 q1608 qs78 q89 q1609
theorem hdX6_type : yX6_type.cls = RX6 ∧ yX6_type.cls ≠ "java/lang/invoke/MethodHandle" ∧ yX6_type.cls ≠ "java/lang/invoke/VarHandle" ∧ (parseMethodDescriptor yX6_type.desc).map (fun d => d.parameters.length) = some 2 := by decide +kernel
theorem hdX6_isText : yX6_isText.cls = RX6 ∧ yX6_isText.cls ≠ "java/lang/invoke/MethodHandle" ∧ yX6_isText.cls ≠ "java/lang/invoke/VarHandle" ∧ (parseMethodDescriptor yX6_isText.desc).map (fun d => d.parameters.length) = some 1 := by decide +kernel
theorem hdX6_in : yX6_in.cls = RX6 ∧ yX6_in.cls ≠ "java/lang/invoke/MethodHandle" ∧ yX6_in.cls ≠ "java/lang/invoke/VarHandle" ∧ (parseMethodDescriptor yX6_in.desc).map (fun d => d.parameters.length) = some 3 := by decide +kernel
theorem hdX6_wipe : yX6_wipe.cls = RX6 ∧ yX6_wipe.cls ≠ "java/lang/invoke/MethodHandle" ∧ yX6_wipe.cls ≠ "java/lang/invoke/VarHandle" ∧ (parseMethodDescriptor yX6_wipe.desc).map (fun d => d.parameters.length) = some 1 := by decide +kernel
theorem hdX6_undo : yX6_undo.cls = RX6 ∧ yX6_undo.cls ≠ "java/lang/invoke/MethodHandle" ∧ yX6_undo.cls ≠ "java/lang/invoke/VarHandle" ∧ (parseMethodDescriptor yX6_undo.desc).map (fun d => d.parameters.length) = some 1 := by decide +kernel
theorem hdX6_fault : yX6_fault.cls = RX6 ∧ yX6_fault.cls ≠ "java/lang/invoke/MethodHandle" ∧ yX6_fault.cls ≠ "java/lang/invoke/VarHandle" ∧ (parseMethodDescriptor yX6_fault.desc).map (fun d => d.parameters.length) = some 1 := by decide +kernel
theorem hdX6_faultOf : yX6_faultOf.cls = RX6 ∧ yX6_faultOf.cls ≠ "java/lang/invoke/MethodHandle" ∧ yX6_faultOf.cls ≠ "java/lang/invoke/VarHandle" ∧ (parseMethodDescriptor yX6_faultOf.desc).map (fun d => d.parameters.length) = some 1 := by decide +kernel
theorem hdX6_readsParts : yX6_readsParts.cls = RX6 ∧ yX6_readsParts.cls ≠ "java/lang/invoke/MethodHandle" ∧ yX6_readsParts.cls ≠ "java/lang/invoke/VarHandle" ∧ (parseMethodDescriptor yX6_readsParts.desc).map (fun d => d.parameters.length) = some 1 := by decide +kernel
theorem hdX6_readsSaver : yX6_readsSaver.cls = RX6 ∧ yX6_readsSaver.cls ≠ "java/lang/invoke/MethodHandle" ∧ yX6_readsSaver.cls ≠ "java/lang/invoke/VarHandle" ∧ (parseMethodDescriptor yX6_readsSaver.desc).map (fun d => d.parameters.length) = some 2 := by decide +kernel
theorem hdX6_figureAt : yX6_figureAt.cls = RX6 ∧ yX6_figureAt.cls ≠ "java/lang/invoke/MethodHandle" ∧ yX6_figureAt.cls ≠ "java/lang/invoke/VarHandle" ∧ (parseMethodDescriptor yX6_figureAt.desc).map (fun d => d.parameters.length) = some 2 := by decide +kernel
theorem hdX6_byteAt : yX6_byteAt.cls = RX6 ∧ yX6_byteAt.cls ≠ "java/lang/invoke/MethodHandle" ∧ yX6_byteAt.cls ≠ "java/lang/invoke/VarHandle" ∧ (parseMethodDescriptor yX6_byteAt.desc).map (fun d => d.parameters.length) = some 2 := by decide +kernel
theorem hdX6_letterAt : yX6_letterAt.cls = RX6 ∧ yX6_letterAt.cls ≠ "java/lang/invoke/MethodHandle" ∧ yX6_letterAt.cls ≠ "java/lang/invoke/VarHandle" ∧ (parseMethodDescriptor yX6_letterAt.desc).map (fun d => d.parameters.length) = some 2 := by decide +kernel
theorem hdX6_readsPartner : yX6_readsPartner.cls = RX6 ∧ yX6_readsPartner.cls ≠ "java/lang/invoke/MethodHandle" ∧ yX6_readsPartner.cls ≠ "java/lang/invoke/VarHandle" ∧ (parseMethodDescriptor yX6_readsPartner.desc).map (fun d => d.parameters.length) = some 2 := by decide +kernel
theorem hdX6_saver : yX6_saver.cls = RX6 ∧ yX6_saver.cls ≠ "java/lang/invoke/MethodHandle" ∧ yX6_saver.cls ≠ "java/lang/invoke/VarHandle" ∧ (parseMethodDescriptor yX6_saver.desc).map (fun d => d.parameters.length) = some 2 := by decide +kernel
theorem hdX6_isSaver : yX6_isSaver.cls = RX6 ∧ yX6_isSaver.cls ≠ "java/lang/invoke/MethodHandle" ∧ yX6_isSaver.cls ≠ "java/lang/invoke/VarHandle" ∧ (parseMethodDescriptor yX6_isSaver.desc).map (fun d => d.parameters.length) = some 1 := by decide +kernel
theorem hdX6_reads : yX6_reads.cls = RX6 ∧ yX6_reads.cls ≠ "java/lang/invoke/MethodHandle" ∧ yX6_reads.cls ≠ "java/lang/invoke/VarHandle" ∧ (parseMethodDescriptor yX6_reads.desc).map (fun d => d.parameters.length) = some 0 := by decide +kernel
theorem hdX6_saverOf : yX6_saverOf.cls = RX6 ∧ yX6_saverOf.cls ≠ "java/lang/invoke/MethodHandle" ∧ yX6_saverOf.cls ≠ "java/lang/invoke/VarHandle" ∧ (parseMethodDescriptor yX6_saverOf.desc).map (fun d => d.parameters.length) = some 2 := by decide +kernel
theorem hdX6_partner : yX6_partner.cls = RX6 ∧ yX6_partner.cls ≠ "java/lang/invoke/MethodHandle" ∧ yX6_partner.cls ≠ "java/lang/invoke/VarHandle" ∧ (parseMethodDescriptor yX6_partner.desc).map (fun d => d.parameters.length) = some 2 := by decide +kernel
theorem hdX6_isPartner : yX6_isPartner.cls = RX6 ∧ yX6_isPartner.cls ≠ "java/lang/invoke/MethodHandle" ∧ yX6_isPartner.cls ≠ "java/lang/invoke/VarHandle" ∧ (parseMethodDescriptor yX6_isPartner.desc).map (fun d => d.parameters.length) = some 1 := by decide +kernel
theorem hdX6_set : yX6_set.cls = RX6 ∧ yX6_set.cls ≠ "java/lang/invoke/MethodHandle" ∧ yX6_set.cls ≠ "java/lang/invoke/VarHandle" ∧ (parseMethodDescriptor yX6_set.desc).map (fun d => d.parameters.length) = some 2 := by decide +kernel
theorem hdX6_call : yX6_call.cls = RX6 ∧ yX6_call.cls ≠ "java/lang/invoke/MethodHandle" ∧ yX6_call.cls ≠ "java/lang/invoke/VarHandle" ∧ (parseMethodDescriptor yX6_call.desc).map (fun d => d.parameters.length) = some 2 := by decide +kernel
theorem hdX6_isDay : yX6_isDay.cls = RX6 ∧ yX6_isDay.cls ≠ "java/lang/invoke/MethodHandle" ∧ yX6_isDay.cls ≠ "java/lang/invoke/VarHandle" ∧ (parseMethodDescriptor yX6_isDay.desc).map (fun d => d.parameters.length) = some 1 := by decide +kernel
theorem hdX6_war : yX6_war.cls = RX6 ∧ yX6_war.cls ≠ "java/lang/invoke/MethodHandle" ∧ yX6_war.cls ≠ "java/lang/invoke/VarHandle" ∧ (parseMethodDescriptor yX6_war.desc).map (fun d => d.parameters.length) = some 1 := by decide +kernel
theorem hdX6_back : yX6_back.cls = RX6 ∧ yX6_back.cls ≠ "java/lang/invoke/MethodHandle" ∧ yX6_back.cls ≠ "java/lang/invoke/VarHandle" ∧ (parseMethodDescriptor yX6_back.desc).map (fun d => d.parameters.length) = some 1 := by decide +kernel
theorem hdX6_read : yX6_read.cls = RX6 ∧ yX6_read.cls ≠ "java/lang/invoke/MethodHandle" ∧ yX6_read.cls ≠ "java/lang/invoke/VarHandle" ∧ (parseMethodDescriptor yX6_read.desc).map (fun d => d.parameters.length) = some 1 := by decide +kernel
theorem hdX6_isSheet : yX6_isSheet.cls = RX6 ∧ yX6_isSheet.cls ≠ "java/lang/invoke/MethodHandle" ∧ yX6_isSheet.cls ≠ "java/lang/invoke/VarHandle" ∧ (parseMethodDescriptor yX6_isSheet.desc).map (fun d => d.parameters.length) = some 1 := by decide +kernel
theorem hdX6_meets : yX6_meets.cls = RX6 ∧ yX6_meets.cls ≠ "java/lang/invoke/MethodHandle" ∧ yX6_meets.cls ≠ "java/lang/invoke/VarHandle" ∧ (parseMethodDescriptor yX6_meets.desc).map (fun d => d.parameters.length) = some 1 := by decide +kernel
theorem hdX6_owed : yX6_owed.cls = RX6 ∧ yX6_owed.cls ≠ "java/lang/invoke/MethodHandle" ∧ yX6_owed.cls ≠ "java/lang/invoke/VarHandle" ∧ (parseMethodDescriptor yX6_owed.desc).map (fun d => d.parameters.length) = some 2 := by decide +kernel
theorem hdX6_owedOf : yX6_owedOf.cls = RX6 ∧ yX6_owedOf.cls ≠ "java/lang/invoke/MethodHandle" ∧ yX6_owedOf.cls ≠ "java/lang/invoke/VarHandle" ∧ (parseMethodDescriptor yX6_owedOf.desc).map (fun d => d.parameters.length) = some 2 := by decide +kernel
theorem hdX6_runsTold : yX6_runsTold.cls = RX6 ∧ yX6_runsTold.cls ≠ "java/lang/invoke/MethodHandle" ∧ yX6_runsTold.cls ≠ "java/lang/invoke/VarHandle" ∧ (parseMethodDescriptor yX6_runsTold.desc).map (fun d => d.parameters.length) = some 0 := by decide +kernel
theorem hdX6_asTold : yX6_asTold.cls = RX6 ∧ yX6_asTold.cls ≠ "java/lang/invoke/MethodHandle" ∧ yX6_asTold.cls ≠ "java/lang/invoke/VarHandle" ∧ (parseMethodDescriptor yX6_asTold.desc).map (fun d => d.parameters.length) = some 0 := by decide +kernel
theorem hdX6_lays : yX6_lays.cls = RX6 ∧ yX6_lays.cls ≠ "java/lang/invoke/MethodHandle" ∧ yX6_lays.cls ≠ "java/lang/invoke/VarHandle" ∧ (parseMethodDescriptor yX6_lays.desc).map (fun d => d.parameters.length) = some 2 := by decide +kernel
theorem hdX6_noCalls : yX6_noCalls.cls = RX6 ∧ yX6_noCalls.cls ≠ "java/lang/invoke/MethodHandle" ∧ yX6_noCalls.cls ≠ "java/lang/invoke/VarHandle" ∧ (parseMethodDescriptor yX6_noCalls.desc).map (fun d => d.parameters.length) = some 0 := by decide +kernel
theorem hdX6_isIn : yX6_isIn.cls = RX6 ∧ yX6_isIn.cls ≠ "java/lang/invoke/MethodHandle" ∧ yX6_isIn.cls ≠ "java/lang/invoke/VarHandle" ∧ (parseMethodDescriptor yX6_isIn.desc).map (fun d => d.parameters.length) = some 2 := by decide +kernel
theorem hdX6_runs : yX6_runs.cls = RX6 ∧ yX6_runs.cls ≠ "java/lang/invoke/MethodHandle" ∧ yX6_runs.cls ≠ "java/lang/invoke/VarHandle" ∧ (parseMethodDescriptor yX6_runs.desc).map (fun d => d.parameters.length) = some 0 := by decide +kernel
theorem hdX6_goesBy : yX6_goesBy.cls = RX6 ∧ yX6_goesBy.cls ≠ "java/lang/invoke/MethodHandle" ∧ yX6_goesBy.cls ≠ "java/lang/invoke/VarHandle" ∧ (parseMethodDescriptor yX6_goesBy.desc).map (fun d => d.parameters.length) = some 1 := by decide +kernel
theorem hdX6_hears : yX6_hears.cls = RX6 ∧ yX6_hears.cls ≠ "java/lang/invoke/MethodHandle" ∧ yX6_hears.cls ≠ "java/lang/invoke/VarHandle" ∧ (parseMethodDescriptor yX6_hears.desc).map (fun d => d.parameters.length) = some 2 := by decide +kernel
theorem hdX6_allOwed : yX6_allOwed.cls = RX6 ∧ yX6_allOwed.cls ≠ "java/lang/invoke/MethodHandle" ∧ yX6_allOwed.cls ≠ "java/lang/invoke/VarHandle" ∧ (parseMethodDescriptor yX6_allOwed.desc).map (fun d => d.parameters.length) = some 1 := by decide +kernel
theorem hdX6_heard : yX6_heard.cls = RX6 ∧ yX6_heard.cls ≠ "java/lang/invoke/MethodHandle" ∧ yX6_heard.cls ≠ "java/lang/invoke/VarHandle" ∧ (parseMethodDescriptor yX6_heard.desc).map (fun d => d.parameters.length) = some 3 := by decide +kernel
theorem hdX6_heardOf : yX6_heardOf.cls = RX6 ∧ yX6_heardOf.cls ≠ "java/lang/invoke/MethodHandle" ∧ yX6_heardOf.cls ≠ "java/lang/invoke/VarHandle" ∧ (parseMethodDescriptor yX6_heardOf.desc).map (fun d => d.parameters.length) = some 3 := by decide +kernel
theorem hdX6_left : yX6_left.cls = RX6 ∧ yX6_left.cls ≠ "java/lang/invoke/MethodHandle" ∧ yX6_left.cls ≠ "java/lang/invoke/VarHandle" ∧ (parseMethodDescriptor yX6_left.desc).map (fun d => d.parameters.length) = some 2 := by decide +kernel
theorem hdX6_leftOf : yX6_leftOf.cls = RX6 ∧ yX6_leftOf.cls ≠ "java/lang/invoke/MethodHandle" ∧ yX6_leftOf.cls ≠ "java/lang/invoke/VarHandle" ∧ (parseMethodDescriptor yX6_leftOf.desc).map (fun d => d.parameters.length) = some 2 := by decide +kernel
theorem hdX6_run : yX6_run.cls = RX6 ∧ yX6_run.cls ≠ "java/lang/invoke/MethodHandle" ∧ yX6_run.cls ≠ "java/lang/invoke/VarHandle" ∧ (parseMethodDescriptor yX6_run.desc).map (fun d => d.parameters.length) = some 0 := by decide +kernel
theorem hdX6_runOf : yX6_runOf.cls = RX6 ∧ yX6_runOf.cls ≠ "java/lang/invoke/MethodHandle" ∧ yX6_runOf.cls ≠ "java/lang/invoke/VarHandle" ∧ (parseMethodDescriptor yX6_runOf.desc).map (fun d => d.parameters.length) = some 0 := by decide +kernel
theorem hdX6_yawn : yX6_yawn.cls = RX6 ∧ yX6_yawn.cls ≠ "java/lang/invoke/MethodHandle" ∧ yX6_yawn.cls ≠ "java/lang/invoke/VarHandle" ∧ (parseMethodDescriptor yX6_yawn.desc).map (fun d => d.parameters.length) = some 1 := by decide +kernel
theorem hdX6_yawnOf : yX6_yawnOf.cls = RX6 ∧ yX6_yawnOf.cls ≠ "java/lang/invoke/MethodHandle" ∧ yX6_yawnOf.cls ≠ "java/lang/invoke/VarHandle" ∧ (parseMethodDescriptor yX6_yawnOf.desc).map (fun d => d.parameters.length) = some 1 := by decide +kernel
theorem hdX6_most : yX6_most.cls = RX6 ∧ yX6_most.cls ≠ "java/lang/invoke/MethodHandle" ∧ yX6_most.cls ≠ "java/lang/invoke/VarHandle" ∧ (parseMethodDescriptor yX6_most.desc).map (fun d => d.parameters.length) = some 0 := by decide +kernel
theorem hdX6_mostNow : yX6_mostNow.cls = RX6 ∧ yX6_mostNow.cls ≠ "java/lang/invoke/MethodHandle" ∧ yX6_mostNow.cls ≠ "java/lang/invoke/VarHandle" ∧ (parseMethodDescriptor yX6_mostNow.desc).map (fun d => d.parameters.length) = some 0 := by decide +kernel
theorem hdX6_allHeard : yX6_allHeard.cls = RX6 ∧ yX6_allHeard.cls ≠ "java/lang/invoke/MethodHandle" ∧ yX6_allHeard.cls ≠ "java/lang/invoke/VarHandle" ∧ (parseMethodDescriptor yX6_allHeard.desc).map (fun d => d.parameters.length) = some 1 := by decide +kernel
theorem hdX6_hold : yX6_hold.cls = RX6 ∧ yX6_hold.cls ≠ "java/lang/invoke/MethodHandle" ∧ yX6_hold.cls ≠ "java/lang/invoke/VarHandle" ∧ (parseMethodDescriptor yX6_hold.desc).map (fun d => d.parameters.length) = some 0 := by decide +kernel
theorem hdX6_holdNow : yX6_holdNow.cls = RX6 ∧ yX6_holdNow.cls ≠ "java/lang/invoke/MethodHandle" ∧ yX6_holdNow.cls ≠ "java/lang/invoke/VarHandle" ∧ (parseMethodDescriptor yX6_holdNow.desc).map (fun d => d.parameters.length) = some 0 := by decide +kernel
theorem hdX6_draw : yX6_draw.cls = RX6 ∧ yX6_draw.cls ≠ "java/lang/invoke/MethodHandle" ∧ yX6_draw.cls ≠ "java/lang/invoke/VarHandle" ∧ (parseMethodDescriptor yX6_draw.desc).map (fun d => d.parameters.length) = some 2 := by decide +kernel
theorem hdX6_drawOf : yX6_drawOf.cls = RX6 ∧ yX6_drawOf.cls ≠ "java/lang/invoke/MethodHandle" ∧ yX6_drawOf.cls ≠ "java/lang/invoke/VarHandle" ∧ (parseMethodDescriptor yX6_drawOf.desc).map (fun d => d.parameters.length) = some 2 := by decide +kernel
theorem hdX6_hire : yX6_hire.cls = RX6 ∧ yX6_hire.cls ≠ "java/lang/invoke/MethodHandle" ∧ yX6_hire.cls ≠ "java/lang/invoke/VarHandle" ∧ (parseMethodDescriptor yX6_hire.desc).map (fun d => d.parameters.length) = some 1 := by decide +kernel
theorem hdX6_hireOf : yX6_hireOf.cls = RX6 ∧ yX6_hireOf.cls ≠ "java/lang/invoke/MethodHandle" ∧ yX6_hireOf.cls ≠ "java/lang/invoke/VarHandle" ∧ (parseMethodDescriptor yX6_hireOf.desc).map (fun d => d.parameters.length) = some 1 := by decide +kernel
theorem hdX6_match : yX6_match.cls = RX6 ∧ yX6_match.cls ≠ "java/lang/invoke/MethodHandle" ∧ yX6_match.cls ≠ "java/lang/invoke/VarHandle" ∧ (parseMethodDescriptor yX6_match.desc).map (fun d => d.parameters.length) = some 0 := by decide +kernel
theorem hdX6_matchNow : yX6_matchNow.cls = RX6 ∧ yX6_matchNow.cls ≠ "java/lang/invoke/MethodHandle" ∧ yX6_matchNow.cls ≠ "java/lang/invoke/VarHandle" ∧ (parseMethodDescriptor yX6_matchNow.desc).map (fun d => d.parameters.length) = some 0 := by decide +kernel
theorem hdX6_seen : yX6_seen.cls = RX6 ∧ yX6_seen.cls ≠ "java/lang/invoke/MethodHandle" ∧ yX6_seen.cls ≠ "java/lang/invoke/VarHandle" ∧ (parseMethodDescriptor yX6_seen.desc).map (fun d => d.parameters.length) = some 3 := by decide +kernel
theorem hdX6_forget : yX6_forget.cls = RX6 ∧ yX6_forget.cls ≠ "java/lang/invoke/MethodHandle" ∧ yX6_forget.cls ≠ "java/lang/invoke/VarHandle" ∧ (parseMethodDescriptor yX6_forget.desc).map (fun d => d.parameters.length) = some 0 := by decide +kernel
theorem hdX6_never : yX6_never.cls = RX6 ∧ yX6_never.cls ≠ "java/lang/invoke/MethodHandle" ∧ yX6_never.cls ≠ "java/lang/invoke/VarHandle" ∧ (parseMethodDescriptor yX6_never.desc).map (fun d => d.parameters.length) = some 0 := by decide +kernel
theorem hdX6_neverNow : yX6_neverNow.cls = RX6 ∧ yX6_neverNow.cls ≠ "java/lang/invoke/MethodHandle" ∧ yX6_neverNow.cls ≠ "java/lang/invoke/VarHandle" ∧ (parseMethodDescriptor yX6_neverNow.desc).map (fun d => d.parameters.length) = some 0 := by decide +kernel
theorem hdX6_isSeen : yX6_isSeen.cls = RX6 ∧ yX6_isSeen.cls ≠ "java/lang/invoke/MethodHandle" ∧ yX6_isSeen.cls ≠ "java/lang/invoke/VarHandle" ∧ (parseMethodDescriptor yX6_isSeen.desc).map (fun d => d.parameters.length) = some 0 := by decide +kernel
theorem hdX6_sums : yX6_sums.cls = RX6 ∧ yX6_sums.cls ≠ "java/lang/invoke/MethodHandle" ∧ yX6_sums.cls ≠ "java/lang/invoke/VarHandle" ∧ (parseMethodDescriptor yX6_sums.desc).map (fun d => d.parameters.length) = some 1 := by decide +kernel
theorem hdX6_sumsBy : yX6_sumsBy.cls = RX6 ∧ yX6_sumsBy.cls ≠ "java/lang/invoke/MethodHandle" ∧ yX6_sumsBy.cls ≠ "java/lang/invoke/VarHandle" ∧ (parseMethodDescriptor yX6_sumsBy.desc).map (fun d => d.parameters.length) = some 1 := by decide +kernel
theorem hdX6_rates : yX6_rates.cls = RX6 ∧ yX6_rates.cls ≠ "java/lang/invoke/MethodHandle" ∧ yX6_rates.cls ≠ "java/lang/invoke/VarHandle" ∧ (parseMethodDescriptor yX6_rates.desc).map (fun d => d.parameters.length) = some 0 := by decide +kernel
theorem hdX6_ratesNow : yX6_ratesNow.cls = RX6 ∧ yX6_ratesNow.cls ≠ "java/lang/invoke/MethodHandle" ∧ yX6_ratesNow.cls ≠ "java/lang/invoke/VarHandle" ∧ (parseMethodDescriptor yX6_ratesNow.desc).map (fun d => d.parameters.length) = some 0 := by decide +kernel
theorem hdX6_ask : yX6_ask.cls = RX6 ∧ yX6_ask.cls ≠ "java/lang/invoke/MethodHandle" ∧ yX6_ask.cls ≠ "java/lang/invoke/VarHandle" ∧ (parseMethodDescriptor yX6_ask.desc).map (fun d => d.parameters.length) = some 1 := by decide +kernel
theorem hdX6_askOf : yX6_askOf.cls = RX6 ∧ yX6_askOf.cls ≠ "java/lang/invoke/MethodHandle" ∧ yX6_askOf.cls ≠ "java/lang/invoke/VarHandle" ∧ (parseMethodDescriptor yX6_askOf.desc).map (fun d => d.parameters.length) = some 1 := by decide +kernel
theorem hdX6_peace : yX6_peace.cls = RX6 ∧ yX6_peace.cls ≠ "java/lang/invoke/MethodHandle" ∧ yX6_peace.cls ≠ "java/lang/invoke/VarHandle" ∧ (parseMethodDescriptor yX6_peace.desc).map (fun d => d.parameters.length) = some 2 := by decide +kernel
theorem hdX6_peaceOf : yX6_peaceOf.cls = RX6 ∧ yX6_peaceOf.cls ≠ "java/lang/invoke/MethodHandle" ∧ yX6_peaceOf.cls ≠ "java/lang/invoke/VarHandle" ∧ (parseMethodDescriptor yX6_peaceOf.desc).map (fun d => d.parameters.length) = some 2 := by decide +kernel
theorem hdX6_lowest : yX6_lowest.cls = RX6 ∧ yX6_lowest.cls ≠ "java/lang/invoke/MethodHandle" ∧ yX6_lowest.cls ≠ "java/lang/invoke/VarHandle" ∧ (parseMethodDescriptor yX6_lowest.desc).map (fun d => d.parameters.length) = some 3 := by decide +kernel
theorem hdX6_no : yX6_no.cls = RX6 ∧ yX6_no.cls ≠ "java/lang/invoke/MethodHandle" ∧ yX6_no.cls ≠ "java/lang/invoke/VarHandle" ∧ (parseMethodDescriptor yX6_no.desc).map (fun d => d.parameters.length) = some 1 := by decide +kernel
theorem hdX6_term : yX6_term.cls = RX6 ∧ yX6_term.cls ≠ "java/lang/invoke/MethodHandle" ∧ yX6_term.cls ≠ "java/lang/invoke/VarHandle" ∧ (parseMethodDescriptor yX6_term.desc).map (fun d => d.parameters.length) = some 3 := by decide +kernel
theorem hdX6_termOf : yX6_termOf.cls = RX6 ∧ yX6_termOf.cls ≠ "java/lang/invoke/MethodHandle" ∧ yX6_termOf.cls ≠ "java/lang/invoke/VarHandle" ∧ (parseMethodDescriptor yX6_termOf.desc).map (fun d => d.parameters.length) = some 3 := by decide +kernel
theorem hdX6_sheet : yX6_sheet.cls = RX6 ∧ yX6_sheet.cls ≠ "java/lang/invoke/MethodHandle" ∧ yX6_sheet.cls ≠ "java/lang/invoke/VarHandle" ∧ (parseMethodDescriptor yX6_sheet.desc).map (fun d => d.parameters.length) = some 3 := by decide +kernel
theorem hdX6_lose : yX6_lose.cls = RX6 ∧ yX6_lose.cls ≠ "java/lang/invoke/MethodHandle" ∧ yX6_lose.cls ≠ "java/lang/invoke/VarHandle" ∧ (parseMethodDescriptor yX6_lose.desc).map (fun d => d.parameters.length) = some 1 := by decide +kernel
theorem hdX6_put : yX6_put.cls = RX6 ∧ yX6_put.cls ≠ "java/lang/invoke/MethodHandle" ∧ yX6_put.cls ≠ "java/lang/invoke/VarHandle" ∧ (parseMethodDescriptor yX6_put.desc).map (fun d => d.parameters.length) = some 4 := by decide +kernel
theorem hdX6_lacks : yX6_lacks.cls = RX6 ∧ yX6_lacks.cls ≠ "java/lang/invoke/MethodHandle" ∧ yX6_lacks.cls ≠ "java/lang/invoke/VarHandle" ∧ (parseMethodDescriptor yX6_lacks.desc).map (fun d => d.parameters.length) = some 3 := by decide +kernel
theorem hdX6_keep : yX6_keep.cls = RX6 ∧ yX6_keep.cls ≠ "java/lang/invoke/MethodHandle" ∧ yX6_keep.cls ≠ "java/lang/invoke/VarHandle" ∧ (parseMethodDescriptor yX6_keep.desc).map (fun d => d.parameters.length) = some 3 := by decide +kernel
theorem hdX6_get : yX6_get.cls = RX6 ∧ yX6_get.cls ≠ "java/lang/invoke/MethodHandle" ∧ yX6_get.cls ≠ "java/lang/invoke/VarHandle" ∧ (parseMethodDescriptor yX6_get.desc).map (fun d => d.parameters.length) = some 3 := by decide +kernel
theorem hdX6_copy : yX6_copy.cls = RX6 ∧ yX6_copy.cls ≠ "java/lang/invoke/MethodHandle" ∧ yX6_copy.cls ≠ "java/lang/invoke/VarHandle" ∧ (parseMethodDescriptor yX6_copy.desc).map (fun d => d.parameters.length) = some 5 := by decide +kernel
theorem hdX6_write : yX6_write.cls = RX6 ∧ yX6_write.cls ≠ "java/lang/invoke/MethodHandle" ∧ yX6_write.cls ≠ "java/lang/invoke/VarHandle" ∧ (parseMethodDescriptor yX6_write.desc).map (fun d => d.parameters.length) = some 2 := by decide +kernel
theorem hdX6_count : yX6_count.cls = RX6 ∧ yX6_count.cls ≠ "java/lang/invoke/MethodHandle" ∧ yX6_count.cls ≠ "java/lang/invoke/VarHandle" ∧ (parseMethodDescriptor yX6_count.desc).map (fun d => d.parameters.length) = some 1 := by decide +kernel
theorem hdX6_sumOf : yX6_sumOf.cls = RX6 ∧ yX6_sumOf.cls ≠ "java/lang/invoke/MethodHandle" ∧ yX6_sumOf.cls ≠ "java/lang/invoke/VarHandle" ∧ (parseMethodDescriptor yX6_sumOf.desc).map (fun d => d.parameters.length) = some 1 := by decide +kernel
theorem hdX6_digest : yX6_digest.cls = RX6 ∧ yX6_digest.cls ≠ "java/lang/invoke/MethodHandle" ∧ yX6_digest.cls ≠ "java/lang/invoke/VarHandle" ∧ (parseMethodDescriptor yX6_digest.desc).map (fun d => d.parameters.length) = some 0 := by decide +kernel
theorem hdX6_saverDigest : yX6_saverDigest.cls = RX6 ∧ yX6_saverDigest.cls ≠ "java/lang/invoke/MethodHandle" ∧ yX6_saverDigest.cls ≠ "java/lang/invoke/VarHandle" ∧ (parseMethodDescriptor yX6_saverDigest.desc).map (fun d => d.parameters.length) = some 2 := by decide +kernel
theorem hdX6_partnerDigest : yX6_partnerDigest.cls = RX6 ∧ yX6_partnerDigest.cls ≠ "java/lang/invoke/MethodHandle" ∧ yX6_partnerDigest.cls ≠ "java/lang/invoke/VarHandle" ∧ (parseMethodDescriptor yX6_partnerDigest.desc).map (fun d => d.parameters.length) = some 2 := by decide +kernel
