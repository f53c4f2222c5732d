set_option maxRecDepth 100000
theorem dL_law_1186 : decode cL_law 1186 = .ok (.iadd, 1) := by decide +kernel
theorem dL_law_1187 : decode cL_law 1187 = .ok (.iaload, 1) := by decide +kernel
theorem dL_law_1188 : decode cL_law 1188 = .ok (.aload_n 3, 1) := by decide +kernel
theorem dL_law_1189 : decode cL_law 1189 = .ok (.invokestatic 139, 3) := by decide +kernel
theorem dL_law_1192 : decode cL_law 1192 = .ok (.istore 5, 2) := by decide +kernel
theorem dL_law_1194 : decode cL_law 1194 = .ok (.aload_n 2, 1) := by decide +kernel
theorem dL_law_1195 : decode cL_law 1195 = .ok (.aload_n 0, 1) := by decide +kernel
theorem dL_law_1196 : decode cL_law 1196 = .ok (.iload 4, 2) := by decide +kernel
theorem dL_law_1198 : decode cL_law 1198 = .ok (.iconst 1, 1) := by decide +kernel
theorem dL_law_1199 : decode cL_law 1199 = .ok (.iadd, 1) := by decide +kernel
theorem dL_law_1200 : decode cL_law 1200 = .ok (.iaload, 1) := by decide +kernel
theorem dL_law_1201 : decode cL_law 1201 = .ok (.aload_n 0, 1) := by decide +kernel
theorem dL_law_1202 : decode cL_law 1202 = .ok (.iload 4, 2) := by decide +kernel
theorem dL_law_1204 : decode cL_law 1204 = .ok (.iconst 2, 1) := by decide +kernel
theorem dL_law_1205 : decode cL_law 1205 = .ok (.iadd, 1) := by decide +kernel
theorem dL_law_1206 : decode cL_law 1206 = .ok (.iaload, 1) := by decide +kernel
theorem dL_law_1207 : decode cL_law 1207 = .ok (.aload_n 0, 1) := by decide +kernel
theorem dL_law_1208 : decode cL_law 1208 = .ok (.iload 4, 2) := by decide +kernel
theorem dL_law_1210 : decode cL_law 1210 = .ok (.iconst 3, 1) := by decide +kernel
theorem dL_law_1211 : decode cL_law 1211 = .ok (.iadd, 1) := by decide +kernel
theorem dL_law_1212 : decode cL_law 1212 = .ok (.iaload, 1) := by decide +kernel
theorem dL_law_1213 : decode cL_law 1213 = .ok (.invokevirtual 141, 3) := by decide +kernel
theorem dL_law_1216 : decode cL_law 1216 = .ok (.istore 6, 2) := by decide +kernel
theorem dL_law_1218 : decode cL_law 1218 = .ok (.aload_n 2, 1) := by decide +kernel
theorem dL_law_1219 : decode cL_law 1219 = .ok (.invokevirtual 87, 3) := by decide +kernel
theorem dL_law_1222 : decode cL_law 1222 = .ok (.iload 5, 2) := by decide +kernel
theorem dL_law_1224 : decode cL_law 1224 = .ok (.if_icmp .eq 5, 3) := by decide +kernel
theorem dL_law_1227 : decode cL_law 1227 = .ok (.iconst 0, 1) := by decide +kernel
theorem dL_law_1228 : decode cL_law 1228 = .ok (.ireturn, 1) := by decide +kernel
theorem dL_law_1229 : decode cL_law 1229 = .ok (.iload 5, 2) := by decide +kernel
theorem dL_law_1231 : decode cL_law 1231 = .ok (.ifCond .ne 15, 3) := by decide +kernel
theorem dL_law_1234 : decode cL_law 1234 = .ok (.aload_n 3, 1) := by decide +kernel
theorem dL_law_1235 : decode cL_law 1235 = .ok (.iconst 0, 1) := by decide +kernel
theorem dL_law_1236 : decode cL_law 1236 = .ok (.laload, 1) := by decide +kernel
theorem dL_law_1237 : decode cL_law 1237 = .ok (.iload 6, 2) := by decide +kernel
theorem dL_law_1239 : decode cL_law 1239 = .ok (.i2l, 1) := by decide +kernel
theorem dL_law_1240 : decode cL_law 1240 = .ok (.lcmp, 1) := by decide +kernel
theorem dL_law_1241 : decode cL_law 1241 = .ok (.ifCond .eq 5, 3) := by decide +kernel
theorem dL_law_1244 : decode cL_law 1244 = .ok (.iconst 0, 1) := by decide +kernel
theorem dL_law_1245 : decode cL_law 1245 = .ok (.ireturn, 1) := by decide +kernel
theorem dL_law_1246 : decode cL_law 1246 = .ok (.goto 182, 3) := by decide +kernel
theorem dL_law_1249 : decode cL_law 1249 = .ok (.aload_n 1, 1) := by decide +kernel
theorem dL_law_1250 : decode cL_law 1250 = .ok (.aload_n 0, 1) := by decide +kernel
theorem dL_law_1251 : decode cL_law 1251 = .ok (.iload 4, 2) := by decide +kernel
theorem dL_law_1253 : decode cL_law 1253 = .ok (.iconst 1, 1) := by decide +kernel
theorem dL_law_1254 : decode cL_law 1254 = .ok (.iadd, 1) := by decide +kernel
theorem dL_law_1255 : decode cL_law 1255 = .ok (.iaload, 1) := by decide +kernel
theorem dL_law_1256 : decode cL_law 1256 = .ok (.aload_n 3, 1) := by decide +kernel
theorem dL_law_1257 : decode cL_law 1257 = .ok (.invokestatic 142, 3) := by decide +kernel
theorem dL_law_1260 : decode cL_law 1260 = .ok (.istore 5, 2) := by decide +kernel
theorem dL_law_1262 : decode cL_law 1262 = .ok (.aload_n 2, 1) := by decide +kernel
theorem dL_law_1263 : decode cL_law 1263 = .ok (.aload_n 0, 1) := by decide +kernel
theorem dL_law_1264 : decode cL_law 1264 = .ok (.iload 4, 2) := by decide +kernel
theorem dL_law_1266 : decode cL_law 1266 = .ok (.iconst 1, 1) := by decide +kernel
theorem dL_law_1267 : decode cL_law 1267 = .ok (.iadd, 1) := by decide +kernel
theorem dL_law_1268 : decode cL_law 1268 = .ok (.iaload, 1) := by decide +kernel
theorem dL_law_1269 : decode cL_law 1269 = .ok (.invokevirtual 144, 3) := by decide +kernel
theorem dL_law_1272 : decode cL_law 1272 = .ok (.istore 6, 2) := by decide +kernel
theorem dL_law_1274 : decode cL_law 1274 = .ok (.aload_n 2, 1) := by decide +kernel
theorem dL_law_1275 : decode cL_law 1275 = .ok (.invokevirtual 87, 3) := by decide +kernel
theorem dL_law_1278 : decode cL_law 1278 = .ok (.iload 5, 2) := by decide +kernel
theorem dL_law_1280 : decode cL_law 1280 = .ok (.if_icmp .eq 5, 3) := by decide +kernel
theorem dL_law_1283 : decode cL_law 1283 = .ok (.iconst 0, 1) := by decide +kernel
theorem dL_law_1284 : decode cL_law 1284 = .ok (.ireturn, 1) := by decide +kernel
theorem dL_law_1285 : decode cL_law 1285 = .ok (.iload 5, 2) := by decide +kernel
theorem dL_law_1287 : decode cL_law 1287 = .ok (.ifCond .ne 15, 3) := by decide +kernel
theorem dL_law_1290 : decode cL_law 1290 = .ok (.aload_n 3, 1) := by decide +kernel
theorem dL_law_1291 : decode cL_law 1291 = .ok (.iconst 0, 1) := by decide +kernel
theorem dL_law_1292 : decode cL_law 1292 = .ok (.laload, 1) := by decide +kernel
theorem dL_law_1293 : decode cL_law 1293 = .ok (.iload 6, 2) := by decide +kernel
theorem dL_law_1295 : decode cL_law 1295 = .ok (.i2l, 1) := by decide +kernel
theorem dL_law_1296 : decode cL_law 1296 = .ok (.lcmp, 1) := by decide +kernel
theorem dL_law_1297 : decode cL_law 1297 = .ok (.ifCond .eq 5, 3) := by decide +kernel
theorem dL_law_1300 : decode cL_law 1300 = .ok (.iconst 0, 1) := by decide +kernel
theorem dL_law_1301 : decode cL_law 1301 = .ok (.ireturn, 1) := by decide +kernel
theorem dL_law_1302 : decode cL_law 1302 = .ok (.goto 126, 3) := by decide +kernel
theorem dL_law_1305 : decode cL_law 1305 = .ok (.aload_n 1, 1) := by decide +kernel
theorem dL_law_1306 : decode cL_law 1306 = .ok (.aload_n 0, 1) := by decide +kernel
theorem dL_law_1307 : decode cL_law 1307 = .ok (.iload 4, 2) := by decide +kernel
theorem dL_law_1309 : decode cL_law 1309 = .ok (.iconst 1, 1) := by decide +kernel
theorem dL_law_1310 : decode cL_law 1310 = .ok (.iadd, 1) := by decide +kernel
theorem dL_law_1311 : decode cL_law 1311 = .ok (.iaload, 1) := by decide +kernel
theorem dL_law_1312 : decode cL_law 1312 = .ok (.aload_n 0, 1) := by decide +kernel
theorem dL_law_1313 : decode cL_law 1313 = .ok (.iload 4, 2) := by decide +kernel
theorem dL_law_1315 : decode cL_law 1315 = .ok (.iconst 2, 1) := by decide +kernel
theorem dL_law_1316 : decode cL_law 1316 = .ok (.iadd, 1) := by decide +kernel
theorem dL_law_1317 : decode cL_law 1317 = .ok (.iaload, 1) := by decide +kernel
theorem dL_law_1318 : decode cL_law 1318 = .ok (.aload_n 3, 1) := by decide +kernel
theorem dL_law_1319 : decode cL_law 1319 = .ok (.invokestatic 145, 3) := by decide +kernel
theorem dL_law_1322 : decode cL_law 1322 = .ok (.istore 5, 2) := by decide +kernel
theorem dL_law_1324 : decode cL_law 1324 = .ok (.aload_n 2, 1) := by decide +kernel
theorem dL_law_1325 : decode cL_law 1325 = .ok (.aload_n 0, 1) := by decide +kernel
theorem dL_law_1326 : decode cL_law 1326 = .ok (.iload 4, 2) := by decide +kernel
theorem dL_law_1328 : decode cL_law 1328 = .ok (.iconst 1, 1) := by decide +kernel
theorem dL_law_1329 : decode cL_law 1329 = .ok (.iadd, 1) := by decide +kernel
theorem dL_law_1330 : decode cL_law 1330 = .ok (.iaload, 1) := by decide +kernel
theorem dL_law_1331 : decode cL_law 1331 = .ok (.aload_n 0, 1) := by decide +kernel
theorem dL_law_1332 : decode cL_law 1332 = .ok (.iload 4, 2) := by decide +kernel
theorem dL_law_1334 : decode cL_law 1334 = .ok (.iconst 2, 1) := by decide +kernel
theorem dL_law_1335 : decode cL_law 1335 = .ok (.iadd, 1) := by decide +kernel
theorem dL_law_1336 : decode cL_law 1336 = .ok (.iaload, 1) := by decide +kernel
theorem dL_law_1337 : decode cL_law 1337 = .ok (.invokevirtual 147, 3) := by decide +kernel
theorem dL_law_1340 : decode cL_law 1340 = .ok (.lstore 6, 2) := by decide +kernel
theorem dL_law_1342 : decode cL_law 1342 = .ok (.aload_n 2, 1) := by decide +kernel
theorem dL_law_1343 : decode cL_law 1343 = .ok (.invokevirtual 87, 3) := by decide +kernel
theorem dL_law_1346 : decode cL_law 1346 = .ok (.iload 5, 2) := by decide +kernel
theorem dL_law_1348 : decode cL_law 1348 = .ok (.if_icmp .eq 5, 3) := by decide +kernel
theorem dL_law_1351 : decode cL_law 1351 = .ok (.iconst 0, 1) := by decide +kernel
theorem dL_law_1352 : decode cL_law 1352 = .ok (.ireturn, 1) := by decide +kernel
theorem dL_law_1353 : decode cL_law 1353 = .ok (.iload 5, 2) := by decide +kernel
theorem dL_law_1355 : decode cL_law 1355 = .ok (.ifCond .ne 14, 3) := by decide +kernel
theorem dL_law_1358 : decode cL_law 1358 = .ok (.aload_n 3, 1) := by decide +kernel
theorem dL_law_1359 : decode cL_law 1359 = .ok (.iconst 0, 1) := by decide +kernel
theorem dL_law_1360 : decode cL_law 1360 = .ok (.laload, 1) := by decide +kernel
theorem dL_law_1361 : decode cL_law 1361 = .ok (.lload 6, 2) := by decide +kernel
theorem dL_law_1363 : decode cL_law 1363 = .ok (.lcmp, 1) := by decide +kernel
theorem dL_law_1364 : decode cL_law 1364 = .ok (.ifCond .eq 5, 3) := by decide +kernel
theorem dL_law_1367 : decode cL_law 1367 = .ok (.iconst 0, 1) := by decide +kernel
theorem dL_law_1368 : decode cL_law 1368 = .ok (.ireturn, 1) := by decide +kernel
theorem dL_law_1369 : decode cL_law 1369 = .ok (.goto 59, 3) := by decide +kernel
theorem dL_law_1372 : decode cL_law 1372 = .ok (.aload_n 1, 1) := by decide +kernel
theorem dL_law_1373 : decode cL_law 1373 = .ok (.aload_n 0, 1) := by decide +kernel
theorem dL_law_1374 : decode cL_law 1374 = .ok (.iload 4, 2) := by decide +kernel
theorem dL_law_1376 : decode cL_law 1376 = .ok (.iconst 1, 1) := by decide +kernel
theorem dL_law_1377 : decode cL_law 1377 = .ok (.iadd, 1) := by decide +kernel
theorem dL_law_1378 : decode cL_law 1378 = .ok (.iaload, 1) := by decide +kernel
theorem dL_law_1379 : decode cL_law 1379 = .ok (.aload_n 3, 1) := by decide +kernel
theorem dL_law_1380 : decode cL_law 1380 = .ok (.invokestatic 148, 3) := by decide +kernel
theorem dL_law_1383 : decode cL_law 1383 = .ok (.istore 5, 2) := by decide +kernel
theorem dL_law_1385 : decode cL_law 1385 = .ok (.aload_n 2, 1) := by decide +kernel
theorem dL_law_1386 : decode cL_law 1386 = .ok (.aload_n 0, 1) := by decide +kernel
theorem dL_law_1387 : decode cL_law 1387 = .ok (.iload 4, 2) := by decide +kernel
theorem dL_law_1389 : decode cL_law 1389 = .ok (.iconst 1, 1) := by decide +kernel
theorem dL_law_1390 : decode cL_law 1390 = .ok (.iadd, 1) := by decide +kernel
theorem dL_law_1391 : decode cL_law 1391 = .ok (.iaload, 1) := by decide +kernel
theorem dL_law_1392 : decode cL_law 1392 = .ok (.invokevirtual 150, 3) := by decide +kernel
theorem dL_law_1395 : decode cL_law 1395 = .ok (.istore 6, 2) := by decide +kernel
theorem dL_law_1397 : decode cL_law 1397 = .ok (.aload_n 2, 1) := by decide +kernel
theorem dL_law_1398 : decode cL_law 1398 = .ok (.invokevirtual 87, 3) := by decide +kernel
theorem dL_law_1401 : decode cL_law 1401 = .ok (.iload 5, 2) := by decide +kernel
theorem dL_law_1403 : decode cL_law 1403 = .ok (.if_icmp .eq 5, 3) := by decide +kernel
theorem dL_law_1406 : decode cL_law 1406 = .ok (.iconst 0, 1) := by decide +kernel
theorem dL_law_1407 : decode cL_law 1407 = .ok (.ireturn, 1) := by decide +kernel
theorem dL_law_1408 : decode cL_law 1408 = .ok (.iload 5, 2) := by decide +kernel
theorem dL_law_1410 : decode cL_law 1410 = .ok (.ifCond .ne 15, 3) := by decide +kernel
theorem dL_law_1413 : decode cL_law 1413 = .ok (.aload_n 3, 1) := by decide +kernel
theorem dL_law_1414 : decode cL_law 1414 = .ok (.iconst 0, 1) := by decide +kernel
theorem dL_law_1415 : decode cL_law 1415 = .ok (.laload, 1) := by decide +kernel
theorem dL_law_1416 : decode cL_law 1416 = .ok (.iload 6, 2) := by decide +kernel
theorem dL_law_1418 : decode cL_law 1418 = .ok (.i2l, 1) := by decide +kernel
theorem dL_law_1419 : decode cL_law 1419 = .ok (.lcmp, 1) := by decide +kernel
theorem dL_law_1420 : decode cL_law 1420 = .ok (.ifCond .eq 5, 3) := by decide +kernel
theorem dL_law_1423 : decode cL_law 1423 = .ok (.iconst 0, 1) := by decide +kernel
theorem dL_law_1424 : decode cL_law 1424 = .ok (.ireturn, 1) := by decide +kernel
theorem dL_law_1425 : decode cL_law 1425 = .ok (.goto 3, 3) := by decide +kernel
theorem dL_law_1428 : decode cL_law 1428 = .ok (.iinc 4 6, 3) := by decide +kernel
theorem dL_law_1431 : decode cL_law 1431 = .ok (.goto (-1408), 3) := by decide +kernel
theorem dL_law_1434 : decode cL_law 1434 = .ok (.iconst 1, 1) := by decide +kernel
theorem dL_law_1435 : decode cL_law 1435 = .ok (.ireturn, 1) := by decide +kernel
