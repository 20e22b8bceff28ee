/-! the law: decode rows -/
set_option maxRecDepth 100000
theorem dL_1243 : decode code 1243 = .ok (.aload_n 0, 1) := by decide +kernel
theorem dL_1244 : decode code 1244 = .ok (.iload_n 3, 1) := by decide +kernel
theorem dL_1245 : decode code 1245 = .ok (.iconst 1, 1) := by decide +kernel
theorem dL_1246 : decode code 1246 = .ok (.iadd, 1) := by decide +kernel
theorem dL_1247 : decode code 1247 = .ok (.iaload, 1) := by decide +kernel
theorem dL_1248 : decode code 1248 = .ok (.aload_n 0, 1) := by decide +kernel
theorem dL_1249 : decode code 1249 = .ok (.iload_n 3, 1) := by decide +kernel
theorem dL_1250 : decode code 1250 = .ok (.iconst 2, 1) := by decide +kernel
theorem dL_1251 : decode code 1251 = .ok (.iadd, 1) := by decide +kernel
theorem dL_1252 : decode code 1252 = .ok (.iaload, 1) := by decide +kernel
theorem dL_1253 : decode code 1253 = .ok (.aload_n 0, 1) := by decide +kernel
theorem dL_1254 : decode code 1254 = .ok (.iload_n 3, 1) := by decide +kernel
theorem dL_1255 : decode code 1255 = .ok (.iconst 3, 1) := by decide +kernel
theorem dL_1256 : decode code 1256 = .ok (.iadd, 1) := by decide +kernel
theorem dL_1257 : decode code 1257 = .ok (.iaload, 1) := by decide +kernel
theorem dL_1258 : decode code 1258 = .ok (.invokevirtual 139, 3) := by decide +kernel
theorem dL_1261 : decode code 1261 = .ok (.if_icmp .eq 341, 3) := by decide +kernel
theorem dL_1264 : decode code 1264 = .ok (.iconst 0, 1) := by decide +kernel
theorem dL_1265 : decode code 1265 = .ok (.ireturn, 1) := by decide +kernel
theorem dL_1266 : decode code 1266 = .ok (.aload_n 1, 1) := by decide +kernel
theorem dL_1267 : decode code 1267 = .ok (.aload_n 0, 1) := by decide +kernel
theorem dL_1268 : decode code 1268 = .ok (.iload_n 3, 1) := by decide +kernel
theorem dL_1269 : decode code 1269 = .ok (.iconst 1, 1) := by decide +kernel
theorem dL_1270 : decode code 1270 = .ok (.iadd, 1) := by decide +kernel
theorem dL_1271 : decode code 1271 = .ok (.iaload, 1) := by decide +kernel
theorem dL_1272 : decode code 1272 = .ok (.invokevirtual 140, 3) := by decide +kernel
theorem dL_1275 : decode code 1275 = .ok (.aload_n 2, 1) := by decide +kernel
theorem dL_1276 : decode code 1276 = .ok (.aload_n 0, 1) := by decide +kernel
theorem dL_1277 : decode code 1277 = .ok (.iload_n 3, 1) := by decide +kernel
theorem dL_1278 : decode code 1278 = .ok (.iconst 1, 1) := by decide +kernel
theorem dL_1279 : decode code 1279 = .ok (.iadd, 1) := by decide +kernel
theorem dL_1280 : decode code 1280 = .ok (.iaload, 1) := by decide +kernel
theorem dL_1281 : decode code 1281 = .ok (.invokevirtual 143, 3) := by decide +kernel
theorem dL_1284 : decode code 1284 = .ok (.if_icmp .eq 318, 3) := by decide +kernel
theorem dL_1287 : decode code 1287 = .ok (.iconst 0, 1) := by decide +kernel
theorem dL_1288 : decode code 1288 = .ok (.ireturn, 1) := by decide +kernel
theorem dL_1289 : decode code 1289 = .ok (.aload_n 1, 1) := by decide +kernel
theorem dL_1290 : decode code 1290 = .ok (.aload_n 0, 1) := by decide +kernel
theorem dL_1291 : decode code 1291 = .ok (.iload_n 3, 1) := by decide +kernel
theorem dL_1292 : decode code 1292 = .ok (.iconst 1, 1) := by decide +kernel
theorem dL_1293 : decode code 1293 = .ok (.iadd, 1) := by decide +kernel
theorem dL_1294 : decode code 1294 = .ok (.iaload, 1) := by decide +kernel
theorem dL_1295 : decode code 1295 = .ok (.aload_n 0, 1) := by decide +kernel
theorem dL_1296 : decode code 1296 = .ok (.iload_n 3, 1) := by decide +kernel
theorem dL_1297 : decode code 1297 = .ok (.iconst 2, 1) := by decide +kernel
theorem dL_1298 : decode code 1298 = .ok (.iadd, 1) := by decide +kernel
theorem dL_1299 : decode code 1299 = .ok (.iaload, 1) := by decide +kernel
theorem dL_1300 : decode code 1300 = .ok (.aload_n 0, 1) := by decide +kernel
theorem dL_1301 : decode code 1301 = .ok (.iload_n 3, 1) := by decide +kernel
theorem dL_1302 : decode code 1302 = .ok (.iconst 3, 1) := by decide +kernel
theorem dL_1303 : decode code 1303 = .ok (.iadd, 1) := by decide +kernel
theorem dL_1304 : decode code 1304 = .ok (.iaload, 1) := by decide +kernel
theorem dL_1305 : decode code 1305 = .ok (.invokevirtual 144, 3) := by decide +kernel
theorem dL_1308 : decode code 1308 = .ok (.aload_n 2, 1) := by decide +kernel
theorem dL_1309 : decode code 1309 = .ok (.aload_n 0, 1) := by decide +kernel
theorem dL_1310 : decode code 1310 = .ok (.iload_n 3, 1) := by decide +kernel
theorem dL_1311 : decode code 1311 = .ok (.iconst 1, 1) := by decide +kernel
theorem dL_1312 : decode code 1312 = .ok (.iadd, 1) := by decide +kernel
theorem dL_1313 : decode code 1313 = .ok (.iaload, 1) := by decide +kernel
theorem dL_1314 : decode code 1314 = .ok (.aload_n 0, 1) := by decide +kernel
theorem dL_1315 : decode code 1315 = .ok (.iload_n 3, 1) := by decide +kernel
theorem dL_1316 : decode code 1316 = .ok (.iconst 2, 1) := by decide +kernel
theorem dL_1317 : decode code 1317 = .ok (.iadd, 1) := by decide +kernel
theorem dL_1318 : decode code 1318 = .ok (.iaload, 1) := by decide +kernel
theorem dL_1319 : decode code 1319 = .ok (.aload_n 0, 1) := by decide +kernel
theorem dL_1320 : decode code 1320 = .ok (.iload_n 3, 1) := by decide +kernel
theorem dL_1321 : decode code 1321 = .ok (.iconst 3, 1) := by decide +kernel
theorem dL_1322 : decode code 1322 = .ok (.iadd, 1) := by decide +kernel
theorem dL_1323 : decode code 1323 = .ok (.iaload, 1) := by decide +kernel
theorem dL_1324 : decode code 1324 = .ok (.invokevirtual 147, 3) := by decide +kernel
theorem dL_1327 : decode code 1327 = .ok (.if_icmp .eq 275, 3) := by decide +kernel
theorem dL_1330 : decode code 1330 = .ok (.iconst 0, 1) := by decide +kernel
theorem dL_1331 : decode code 1331 = .ok (.ireturn, 1) := by decide +kernel
theorem dL_1332 : decode code 1332 = .ok (.aload_n 1, 1) := by decide +kernel
theorem dL_1333 : decode code 1333 = .ok (.aload_n 0, 1) := by decide +kernel
theorem dL_1334 : decode code 1334 = .ok (.iload_n 3, 1) := by decide +kernel
theorem dL_1335 : decode code 1335 = .ok (.iconst 1, 1) := by decide +kernel
theorem dL_1336 : decode code 1336 = .ok (.iadd, 1) := by decide +kernel
theorem dL_1337 : decode code 1337 = .ok (.iaload, 1) := by decide +kernel
theorem dL_1338 : decode code 1338 = .ok (.aload_n 0, 1) := by decide +kernel
theorem dL_1339 : decode code 1339 = .ok (.iload_n 3, 1) := by decide +kernel
theorem dL_1340 : decode code 1340 = .ok (.iconst 2, 1) := by decide +kernel
theorem dL_1341 : decode code 1341 = .ok (.iadd, 1) := by decide +kernel
theorem dL_1342 : decode code 1342 = .ok (.iaload, 1) := by decide +kernel
theorem dL_1343 : decode code 1343 = .ok (.aload_n 0, 1) := by decide +kernel
theorem dL_1344 : decode code 1344 = .ok (.iload_n 3, 1) := by decide +kernel
theorem dL_1345 : decode code 1345 = .ok (.iconst 3, 1) := by decide +kernel
theorem dL_1346 : decode code 1346 = .ok (.iadd, 1) := by decide +kernel
theorem dL_1347 : decode code 1347 = .ok (.iaload, 1) := by decide +kernel
theorem dL_1348 : decode code 1348 = .ok (.invokevirtual 148, 3) := by decide +kernel
theorem dL_1351 : decode code 1351 = .ok (.aload_n 2, 1) := by decide +kernel
theorem dL_1352 : decode code 1352 = .ok (.aload_n 0, 1) := by decide +kernel
theorem dL_1353 : decode code 1353 = .ok (.iload_n 3, 1) := by decide +kernel
theorem dL_1354 : decode code 1354 = .ok (.iconst 1, 1) := by decide +kernel
theorem dL_1355 : decode code 1355 = .ok (.iadd, 1) := by decide +kernel
theorem dL_1356 : decode code 1356 = .ok (.iaload, 1) := by decide +kernel
theorem dL_1357 : decode code 1357 = .ok (.aload_n 0, 1) := by decide +kernel
theorem dL_1358 : decode code 1358 = .ok (.iload_n 3, 1) := by decide +kernel
theorem dL_1359 : decode code 1359 = .ok (.iconst 2, 1) := by decide +kernel
theorem dL_1360 : decode code 1360 = .ok (.iadd, 1) := by decide +kernel
theorem dL_1361 : decode code 1361 = .ok (.iaload, 1) := by decide +kernel
theorem dL_1362 : decode code 1362 = .ok (.aload_n 0, 1) := by decide +kernel
theorem dL_1363 : decode code 1363 = .ok (.iload_n 3, 1) := by decide +kernel
theorem dL_1364 : decode code 1364 = .ok (.iconst 3, 1) := by decide +kernel
theorem dL_1365 : decode code 1365 = .ok (.iadd, 1) := by decide +kernel
theorem dL_1366 : decode code 1366 = .ok (.iaload, 1) := by decide +kernel
theorem dL_1367 : decode code 1367 = .ok (.invokevirtual 151, 3) := by decide +kernel
theorem dL_1370 : decode code 1370 = .ok (.if_icmp .eq 232, 3) := by decide +kernel
theorem dL_1373 : decode code 1373 = .ok (.iconst 0, 1) := by decide +kernel
theorem dL_1374 : decode code 1374 = .ok (.ireturn, 1) := by decide +kernel
theorem dL_1375 : decode code 1375 = .ok (.aload_n 1, 1) := by decide +kernel
theorem dL_1376 : decode code 1376 = .ok (.aload_n 0, 1) := by decide +kernel
theorem dL_1377 : decode code 1377 = .ok (.iload_n 3, 1) := by decide +kernel
theorem dL_1378 : decode code 1378 = .ok (.iconst 1, 1) := by decide +kernel
theorem dL_1379 : decode code 1379 = .ok (.iadd, 1) := by decide +kernel
theorem dL_1380 : decode code 1380 = .ok (.iaload, 1) := by decide +kernel
theorem dL_1381 : decode code 1381 = .ok (.aload_n 0, 1) := by decide +kernel
theorem dL_1382 : decode code 1382 = .ok (.iload_n 3, 1) := by decide +kernel
theorem dL_1383 : decode code 1383 = .ok (.iconst 2, 1) := by decide +kernel
theorem dL_1384 : decode code 1384 = .ok (.iadd, 1) := by decide +kernel
theorem dL_1385 : decode code 1385 = .ok (.iaload, 1) := by decide +kernel
theorem dL_1386 : decode code 1386 = .ok (.aload_n 0, 1) := by decide +kernel
theorem dL_1387 : decode code 1387 = .ok (.iload_n 3, 1) := by decide +kernel
theorem dL_1388 : decode code 1388 = .ok (.iconst 3, 1) := by decide +kernel
theorem dL_1389 : decode code 1389 = .ok (.iadd, 1) := by decide +kernel
theorem dL_1390 : decode code 1390 = .ok (.iaload, 1) := by decide +kernel
theorem dL_1391 : decode code 1391 = .ok (.aload_n 0, 1) := by decide +kernel
theorem dL_1392 : decode code 1392 = .ok (.iload_n 3, 1) := by decide +kernel
theorem dL_1393 : decode code 1393 = .ok (.iconst 4, 1) := by decide +kernel
theorem dL_1394 : decode code 1394 = .ok (.iadd, 1) := by decide +kernel
theorem dL_1395 : decode code 1395 = .ok (.iaload, 1) := by decide +kernel
theorem dL_1396 : decode code 1396 = .ok (.aload_n 0, 1) := by decide +kernel
theorem dL_1397 : decode code 1397 = .ok (.iload_n 3, 1) := by decide +kernel
theorem dL_1398 : decode code 1398 = .ok (.iconst 5, 1) := by decide +kernel
theorem dL_1399 : decode code 1399 = .ok (.iadd, 1) := by decide +kernel
theorem dL_1400 : decode code 1400 = .ok (.iaload, 1) := by decide +kernel
theorem dL_1401 : decode code 1401 = .ok (.invokevirtual 152, 3) := by decide +kernel
theorem dL_1404 : decode code 1404 = .ok (.aload_n 2, 1) := by decide +kernel
theorem dL_1405 : decode code 1405 = .ok (.aload_n 0, 1) := by decide +kernel
theorem dL_1406 : decode code 1406 = .ok (.iload_n 3, 1) := by decide +kernel
theorem dL_1407 : decode code 1407 = .ok (.iconst 1, 1) := by decide +kernel
theorem dL_1408 : decode code 1408 = .ok (.iadd, 1) := by decide +kernel
theorem dL_1409 : decode code 1409 = .ok (.iaload, 1) := by decide +kernel
theorem dL_1410 : decode code 1410 = .ok (.aload_n 0, 1) := by decide +kernel
theorem dL_1411 : decode code 1411 = .ok (.iload_n 3, 1) := by decide +kernel
theorem dL_1412 : decode code 1412 = .ok (.iconst 2, 1) := by decide +kernel
theorem dL_1413 : decode code 1413 = .ok (.iadd, 1) := by decide +kernel
theorem dL_1414 : decode code 1414 = .ok (.iaload, 1) := by decide +kernel
theorem dL_1415 : decode code 1415 = .ok (.aload_n 0, 1) := by decide +kernel
theorem dL_1416 : decode code 1416 = .ok (.iload_n 3, 1) := by decide +kernel
theorem dL_1417 : decode code 1417 = .ok (.iconst 3, 1) := by decide +kernel
theorem dL_1418 : decode code 1418 = .ok (.iadd, 1) := by decide +kernel
theorem dL_1419 : decode code 1419 = .ok (.iaload, 1) := by decide +kernel
theorem dL_1420 : decode code 1420 = .ok (.aload_n 0, 1) := by decide +kernel
theorem dL_1421 : decode code 1421 = .ok (.iload_n 3, 1) := by decide +kernel
theorem dL_1422 : decode code 1422 = .ok (.iconst 4, 1) := by decide +kernel
theorem dL_1423 : decode code 1423 = .ok (.iadd, 1) := by decide +kernel
theorem dL_1424 : decode code 1424 = .ok (.iaload, 1) := by decide +kernel
theorem dL_1425 : decode code 1425 = .ok (.aload_n 0, 1) := by decide +kernel
theorem dL_1426 : decode code 1426 = .ok (.iload_n 3, 1) := by decide +kernel
theorem dL_1427 : decode code 1427 = .ok (.iconst 5, 1) := by decide +kernel
theorem dL_1428 : decode code 1428 = .ok (.iadd, 1) := by decide +kernel
theorem dL_1429 : decode code 1429 = .ok (.iaload, 1) := by decide +kernel
theorem dL_1430 : decode code 1430 = .ok (.invokevirtual 156, 3) := by decide +kernel
theorem dL_1433 : decode code 1433 = .ok (.if_icmp .eq 169, 3) := by decide +kernel
theorem dL_1436 : decode code 1436 = .ok (.iconst 0, 1) := by decide +kernel
theorem dL_1437 : decode code 1437 = .ok (.ireturn, 1) := by decide +kernel
theorem dL_1438 : decode code 1438 = .ok (.aload_n 1, 1) := by decide +kernel
theorem dL_1439 : decode code 1439 = .ok (.aload_n 0, 1) := by decide +kernel
theorem dL_1440 : decode code 1440 = .ok (.iload_n 3, 1) := by decide +kernel
theorem dL_1441 : decode code 1441 = .ok (.iconst 1, 1) := by decide +kernel
theorem dL_1442 : decode code 1442 = .ok (.iadd, 1) := by decide +kernel
theorem dL_1443 : decode code 1443 = .ok (.iaload, 1) := by decide +kernel
theorem dL_1444 : decode code 1444 = .ok (.invokevirtual 157, 3) := by decide +kernel
theorem dL_1447 : decode code 1447 = .ok (.aload_n 2, 1) := by decide +kernel
theorem dL_1448 : decode code 1448 = .ok (.aload_n 0, 1) := by decide +kernel
theorem dL_1449 : decode code 1449 = .ok (.iload_n 3, 1) := by decide +kernel
theorem dL_1450 : decode code 1450 = .ok (.iconst 1, 1) := by decide +kernel
theorem dL_1451 : decode code 1451 = .ok (.iadd, 1) := by decide +kernel
theorem dL_1452 : decode code 1452 = .ok (.iaload, 1) := by decide +kernel
theorem dL_1453 : decode code 1453 = .ok (.invokevirtual 160, 3) := by decide +kernel
theorem dL_1456 : decode code 1456 = .ok (.if_icmp .eq 146, 3) := by decide +kernel
theorem dL_1459 : decode code 1459 = .ok (.iconst 0, 1) := by decide +kernel
theorem dL_1460 : decode code 1460 = .ok (.ireturn, 1) := by decide +kernel
theorem dL_1461 : decode code 1461 = .ok (.aload_n 1, 1) := by decide +kernel
theorem dL_1462 : decode code 1462 = .ok (.aload_n 0, 1) := by decide +kernel
theorem dL_1463 : decode code 1463 = .ok (.iload_n 3, 1) := by decide +kernel
theorem dL_1464 : decode code 1464 = .ok (.iconst 1, 1) := by decide +kernel
theorem dL_1465 : decode code 1465 = .ok (.iadd, 1) := by decide +kernel
theorem dL_1466 : decode code 1466 = .ok (.iaload, 1) := by decide +kernel
theorem dL_1467 : decode code 1467 = .ok (.aload_n 0, 1) := by decide +kernel
theorem dL_1468 : decode code 1468 = .ok (.iload_n 3, 1) := by decide +kernel
theorem dL_1469 : decode code 1469 = .ok (.iconst 2, 1) := by decide +kernel
theorem dL_1470 : decode code 1470 = .ok (.iadd, 1) := by decide +kernel
theorem dL_1471 : decode code 1471 = .ok (.iaload, 1) := by decide +kernel
theorem dL_1472 : decode code 1472 = .ok (.invokevirtual 161, 3) := by decide +kernel
theorem dL_1475 : decode code 1475 = .ok (.aload_n 2, 1) := by decide +kernel
theorem dL_1476 : decode code 1476 = .ok (.aload_n 0, 1) := by decide +kernel
theorem dL_1477 : decode code 1477 = .ok (.iload_n 3, 1) := by decide +kernel
theorem dL_1478 : decode code 1478 = .ok (.iconst 1, 1) := by decide +kernel
theorem dL_1479 : decode code 1479 = .ok (.iadd, 1) := by decide +kernel
theorem dL_1480 : decode code 1480 = .ok (.iaload, 1) := by decide +kernel
theorem dL_1481 : decode code 1481 = .ok (.aload_n 0, 1) := by decide +kernel
theorem dL_1482 : decode code 1482 = .ok (.iload_n 3, 1) := by decide +kernel
theorem dL_1483 : decode code 1483 = .ok (.iconst 2, 1) := by decide +kernel
theorem dL_1484 : decode code 1484 = .ok (.iadd, 1) := by decide +kernel
theorem dL_1485 : decode code 1485 = .ok (.iaload, 1) := by decide +kernel
theorem dL_1486 : decode code 1486 = .ok (.invokevirtual 164, 3) := by decide +kernel
theorem dL_1489 : decode code 1489 = .ok (.if_icmp .eq 113, 3) := by decide +kernel
theorem dL_1492 : decode code 1492 = .ok (.iconst 0, 1) := by decide +kernel
theorem dL_1493 : decode code 1493 = .ok (.ireturn, 1) := by decide +kernel
theorem dL_1494 : decode code 1494 = .ok (.aload_n 1, 1) := by decide +kernel
theorem dL_1495 : decode code 1495 = .ok (.invokevirtual 165, 3) := by decide +kernel
theorem dL_1498 : decode code 1498 = .ok (.aload_n 2, 1) := by decide +kernel
theorem dL_1499 : decode code 1499 = .ok (.invokevirtual 169, 3) := by decide +kernel
theorem dL_1502 : decode code 1502 = .ok (.if_icmp .eq 100, 3) := by decide +kernel
theorem dL_1505 : decode code 1505 = .ok (.iconst 0, 1) := by decide +kernel
theorem dL_1506 : decode code 1506 = .ok (.ireturn, 1) := by decide +kernel
theorem dL_1507 : decode code 1507 = .ok (.aload_n 1, 1) := by decide +kernel
theorem dL_1508 : decode code 1508 = .ok (.invokevirtual 170, 3) := by decide +kernel
theorem dL_1511 : decode code 1511 = .ok (.aload_n 2, 1) := by decide +kernel
theorem dL_1512 : decode code 1512 = .ok (.invokevirtual 173, 3) := by decide +kernel
theorem dL_1515 : decode code 1515 = .ok (.if_icmp .eq 87, 3) := by decide +kernel
theorem dL_1518 : decode code 1518 = .ok (.iconst 0, 1) := by decide +kernel
theorem dL_1519 : decode code 1519 = .ok (.ireturn, 1) := by decide +kernel
theorem dL_1520 : decode code 1520 = .ok (.aload_n 1, 1) := by decide +kernel
theorem dL_1521 : decode code 1521 = .ok (.aload_n 0, 1) := by decide +kernel
theorem dL_1522 : decode code 1522 = .ok (.iload_n 3, 1) := by decide +kernel
theorem dL_1523 : decode code 1523 = .ok (.iconst 1, 1) := by decide +kernel
theorem dL_1524 : decode code 1524 = .ok (.iadd, 1) := by decide +kernel
theorem dL_1525 : decode code 1525 = .ok (.iaload, 1) := by decide +kernel
theorem dL_1526 : decode code 1526 = .ok (.invokevirtual 174, 3) := by decide +kernel
theorem dL_1529 : decode code 1529 = .ok (.aload_n 2, 1) := by decide +kernel
theorem dL_1530 : decode code 1530 = .ok (.aload_n 0, 1) := by decide +kernel
theorem dL_1531 : decode code 1531 = .ok (.iload_n 3, 1) := by decide +kernel
theorem dL_1532 : decode code 1532 = .ok (.iconst 1, 1) := by decide +kernel
theorem dL_1533 : decode code 1533 = .ok (.iadd, 1) := by decide +kernel
theorem dL_1534 : decode code 1534 = .ok (.iaload, 1) := by decide +kernel
theorem dL_1535 : decode code 1535 = .ok (.invokevirtual 177, 3) := by decide +kernel
theorem dL_1538 : decode code 1538 = .ok (.if_icmp .eq 64, 3) := by decide +kernel
theorem dL_1541 : decode code 1541 = .ok (.iconst 0, 1) := by decide +kernel
theorem dL_1542 : decode code 1542 = .ok (.ireturn, 1) := by decide +kernel
theorem dL_1543 : decode code 1543 = .ok (.aload_n 1, 1) := by decide +kernel
theorem dL_1544 : decode code 1544 = .ok (.invokevirtual 178, 3) := by decide +kernel
theorem dL_1547 : decode code 1547 = .ok (.aload_n 2, 1) := by decide +kernel
theorem dL_1548 : decode code 1548 = .ok (.invokevirtual 181, 3) := by decide +kernel
theorem dL_1551 : decode code 1551 = .ok (.if_icmp .eq 51, 3) := by decide +kernel
theorem dL_1554 : decode code 1554 = .ok (.iconst 0, 1) := by decide +kernel
theorem dL_1555 : decode code 1555 = .ok (.ireturn, 1) := by decide +kernel
theorem dL_1556 : decode code 1556 = .ok (.aload_n 1, 1) := by decide +kernel
theorem dL_1557 : decode code 1557 = .ok (.aload_n 0, 1) := by decide +kernel
theorem dL_1558 : decode code 1558 = .ok (.iload_n 3, 1) := by decide +kernel
theorem dL_1559 : decode code 1559 = .ok (.iconst 1, 1) := by decide +kernel
theorem dL_1560 : decode code 1560 = .ok (.iadd, 1) := by decide +kernel
theorem dL_1561 : decode code 1561 = .ok (.iaload, 1) := by decide +kernel
theorem dL_1562 : decode code 1562 = .ok (.invokevirtual 182, 3) := by decide +kernel
theorem dL_1565 : decode code 1565 = .ok (.aload_n 2, 1) := by decide +kernel
theorem dL_1566 : decode code 1566 = .ok (.aload_n 0, 1) := by decide +kernel
theorem dL_1567 : decode code 1567 = .ok (.iload_n 3, 1) := by decide +kernel
theorem dL_1568 : decode code 1568 = .ok (.iconst 1, 1) := by decide +kernel
theorem dL_1569 : decode code 1569 = .ok (.iadd, 1) := by decide +kernel
theorem dL_1570 : decode code 1570 = .ok (.iaload, 1) := by decide +kernel
theorem dL_1571 : decode code 1571 = .ok (.invokevirtual 185, 3) := by decide +kernel
theorem dL_1574 : decode code 1574 = .ok (.if_icmp .eq 28, 3) := by decide +kernel
theorem dL_1577 : decode code 1577 = .ok (.iconst 0, 1) := by decide +kernel
theorem dL_1578 : decode code 1578 = .ok (.ireturn, 1) := by decide +kernel
theorem dL_1579 : decode code 1579 = .ok (.aload_n 1, 1) := by decide +kernel
theorem dL_1580 : decode code 1580 = .ok (.aload_n 0, 1) := by decide +kernel
theorem dL_1581 : decode code 1581 = .ok (.iload_n 3, 1) := by decide +kernel
theorem dL_1582 : decode code 1582 = .ok (.iconst 1, 1) := by decide +kernel
theorem dL_1583 : decode code 1583 = .ok (.iadd, 1) := by decide +kernel
theorem dL_1584 : decode code 1584 = .ok (.iaload, 1) := by decide +kernel
theorem dL_1585 : decode code 1585 = .ok (.invokevirtual 186, 3) := by decide +kernel
theorem dL_1588 : decode code 1588 = .ok (.aload_n 2, 1) := by decide +kernel
theorem dL_1589 : decode code 1589 = .ok (.aload_n 0, 1) := by decide +kernel
theorem dL_1590 : decode code 1590 = .ok (.iload_n 3, 1) := by decide +kernel
theorem dL_1591 : decode code 1591 = .ok (.iconst 1, 1) := by decide +kernel
theorem dL_1592 : decode code 1592 = .ok (.iadd, 1) := by decide +kernel
theorem dL_1593 : decode code 1593 = .ok (.iaload, 1) := by decide +kernel
theorem dL_1594 : decode code 1594 = .ok (.invokevirtual 189, 3) := by decide +kernel
theorem dL_1597 : decode code 1597 = .ok (.if_icmp .eq 5, 3) := by decide +kernel
theorem dL_1600 : decode code 1600 = .ok (.iconst 0, 1) := by decide +kernel
theorem dL_1601 : decode code 1601 = .ok (.ireturn, 1) := by decide +kernel
theorem dL_1602 : decode code 1602 = .ok (.iinc 3 6, 3) := by decide +kernel
theorem dL_1605 : decode code 1605 = .ok (.goto (-1587), 3) := by decide +kernel
theorem dL_1608 : decode code 1608 = .ok (.iconst 1, 1) := by decide +kernel
theorem dL_1609 : decode code 1609 = .ok (.ireturn, 1) := by decide +kernel
