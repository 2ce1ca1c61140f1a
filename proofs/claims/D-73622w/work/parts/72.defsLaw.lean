def f_L_law_L23 (S : Nat → Int32) (N : Nat) (k : Int32 → ZM → Prop) (n0 : Nat) (n8 : Nat) (n17 : Nat) : Int32 → ZM → Prop :=
  zw1 fun r23 p23l4 =>
    zsn N fun g26 =>
    zif ((g26 - (6 : Int32)) < p23l4) (
      k (1 : Int32)) (
      zsc S N p23l4 fun g36 =>
      zjn (
          r23 (p23l4 + (6 : Int32))) fun j1746 =>
      zsw (g36 &&& (63 : Int32)) 0 [
        zsc S N (p23l4 + (1 : Int32)) fun g202 =>
        zsc S N (p23l4 + (2 : Int32)) fun g208 =>
        zsc S N (p23l4 + (3 : Int32)) fun g214 =>
        zsc S N (p23l4 + (4 : Int32)) fun g220 =>
        zsc S N (p23l4 + (5 : Int32)) fun g226 =>
        zat 1 n0 <| f_X1_feed n0 g202 g208 g214 g220 g226 fun r227 =>
        zsc S N (p23l4 + (1 : Int32)) fun g236 =>
        zsc S N (p23l4 + (2 : Int32)) fun g242 =>
        zsc S N (p23l4 + (3 : Int32)) fun g248 =>
        zsc S N (p23l4 + (4 : Int32)) fun g254 =>
        zsc S N (p23l4 + (5 : Int32)) fun g260 =>
        zat 7 n8 <| f_X9_feed n8 g236 g242 g248 g254 g260 fun r261 =>
        zif (r227 = r261) (
          j1746) (
          k (0 : Int32)),
        zsc S N (p23l4 + (1 : Int32)) fun g275 =>
        zat 1 n0 <| f_X1_end n0 g275 fun r276 =>
        zsc S N (p23l4 + (1 : Int32)) fun g285 =>
        zat 7 n8 <| f_X9_end n8 g285 fun r286 =>
        zif (r276 = r286) (
          j1746) (
          k (0 : Int32)),
        zsc S N (p23l4 + (1 : Int32)) fun g300 =>
        zat 1 n0 <| zcl 16010 110010 (f_X1_fault n0 g300) fun r301 =>
        zsc S N (p23l4 + (1 : Int32)) fun g310 =>
        zat 7 n8 <| f_X9_fault n8 g310 fun r311 =>
        zif (r301 = r311) (
          j1746) (
          k (0 : Int32)),
        zsc S N (p23l4 + (1 : Int32)) fun g325 =>
        zat 1 n0 <| zcl 16010 110010 (f_X1_text n0 g325) fun r326 =>
        zsc S N (p23l4 + (1 : Int32)) fun g335 =>
        zat 7 n8 <| f_X9_text n8 g335 fun r336 =>
        zif (r326 = r336) (
          j1746) (
          k (0 : Int32)),
        zsc S N (p23l4 + (1 : Int32)) fun g350 =>
        zat 1 n0 <| f_X1_rule n0 g350 fun r351 =>
        zsc S N (p23l4 + (1 : Int32)) fun g360 =>
        zat 7 n8 <| f_X9_rule n8 g360 fun r361 =>
        zif (r351 = r361) (
          j1746) (
          k (0 : Int32)),
        zsc S N (p23l4 + (1 : Int32)) fun g375 =>
        zsc S N (p23l4 + (2 : Int32)) fun g381 =>
        zcl 1 6 (f_X0_table n0 g375 g381 n17) fun r383 =>
        zsc S N (p23l4 + (1 : Int32)) fun g394 =>
        zsc S N (p23l4 + (2 : Int32)) fun g400 =>
        zat 7 n8 <| f_X9_table n8 g394 g400 fun r401 =>
        zat 7 n8 <| f_X9_thrown n8 fun r407 =>
        zif (r407 = r383) (
          zjn (
              j1746) fun j434 =>
          zif (r383 = 0) (
            zaL 51 n17 (0 : Int32) fun g424 =>
            zif ((lg_cmp g424 r401.toInt64) = 0) (
              j434) (
              k (0 : Int32))) (
            j434)) (
          k (0 : Int32)),
        zsc S N (p23l4 + (1 : Int32)) fun g443 =>
        zsc S N (p23l4 + (2 : Int32)) fun g449 =>
        zsc S N (p23l4 + (3 : Int32)) fun g455 =>
        zat 1 n0 <| f_X1_rows n0 g443 g449 g455 fun r456 =>
        zsc S N (p23l4 + (1 : Int32)) fun g465 =>
        zsc S N (p23l4 + (2 : Int32)) fun g471 =>
        zsc S N (p23l4 + (3 : Int32)) fun g477 =>
        zat 7 n8 <| f_X9_rows n8 g465 g471 g477 fun r478 =>
        zif (r456 = r478) (
          j1746) (
          k (0 : Int32)),
        zsc S N (p23l4 + (1 : Int32)) fun g492 =>
        zsc S N (p23l4 + (2 : Int32)) fun g498 =>
        zsc S N (p23l4 + (3 : Int32)) fun g504 =>
        zat 1 n0 <| f_X1_countOf n0 g492 g498 g504 fun r505 =>
        zsc S N (p23l4 + (1 : Int32)) fun g514 =>
        zsc S N (p23l4 + (2 : Int32)) fun g520 =>
        zsc S N (p23l4 + (3 : Int32)) fun g526 =>
        zat 7 n8 <| f_X9_countOf n8 g514 g520 g526 fun r527 =>
        zif (r505 = r527) (
          j1746) (
          k (0 : Int32)),
        zsc S N (p23l4 + (1 : Int32)) fun g541 =>
        zsc S N (p23l4 + (2 : Int32)) fun g547 =>
        zsc S N (p23l4 + (3 : Int32)) fun g553 =>
        zsc S N (p23l4 + (4 : Int32)) fun g559 =>
        zat 1 n0 <| f_X1_bucket n0 g541 g547 g553 g559 fun r560 =>
        zsc S N (p23l4 + (1 : Int32)) fun g569 =>
        zsc S N (p23l4 + (2 : Int32)) fun g575 =>
        zsc S N (p23l4 + (3 : Int32)) fun g581 =>
        zsc S N (p23l4 + (4 : Int32)) fun g587 =>
        zat 7 n8 <| f_X9_bucket n8 g569 g575 g581 g587 fun r588 =>
        zif (r560 = r588) (
          j1746) (
          k (0 : Int32)),
        zsc S N (p23l4 + (1 : Int32)) fun g602 =>
        zsc S N (p23l4 + (2 : Int32)) fun g608 =>
        zsc S N (p23l4 + (3 : Int32)) fun g614 =>
        zat 1 n0 <| f_X1_column n0 g602 g608 g614 fun r615 =>
        zsc S N (p23l4 + (1 : Int32)) fun g624 =>
        zsc S N (p23l4 + (2 : Int32)) fun g630 =>
        zsc S N (p23l4 + (3 : Int32)) fun g636 =>
        zat 7 n8 <| f_X9_column_2 n8 g624 g630 g636 fun r637 =>
        zif (r615 = r637) (
          j1746) (
          k (0 : Int32)),
        zsc S N (p23l4 + (1 : Int32)) fun g651 =>
        zsc S N (p23l4 + (2 : Int32)) fun g657 =>
        zsc S N (p23l4 + (3 : Int32)) fun g663 =>
        zat 1 n0 <| f_X1_error n0 g651 g657 g663 fun r664 =>
        zsc S N (p23l4 + (1 : Int32)) fun g673 =>
        zsc S N (p23l4 + (2 : Int32)) fun g679 =>
        zsc S N (p23l4 + (3 : Int32)) fun g685 =>
        zat 7 n8 <| f_X9_error n8 g673 g679 g685 fun r686 =>
        zif ((lg_cmp r664 r686) = 0) (
          j1746) (
          k (0 : Int32)),
        zsc S N (p23l4 + (1 : Int32)) fun g701 =>
        zsc S N (p23l4 + (2 : Int32)) fun g707 =>
        zsc S N (p23l4 + (3 : Int32)) fun g713 =>
        zsc S N (p23l4 + (4 : Int32)) fun g719 =>
        zat 1 n0 <| f_X1_border n0 g701 g707 g713 g719 fun r720 =>
        zsc S N (p23l4 + (1 : Int32)) fun g729 =>
        zsc S N (p23l4 + (2 : Int32)) fun g735 =>
        zsc S N (p23l4 + (3 : Int32)) fun g741 =>
        zsc S N (p23l4 + (4 : Int32)) fun g747 =>
        zat 7 n8 <| f_X9_border n8 g729 g735 g741 g747 fun r748 =>
        zif (r720 = r748) (
          j1746) (
          k (0 : Int32)),
        zsc S N (p23l4 + (1 : Int32)) fun g762 =>
        zsc S N (p23l4 + (2 : Int32)) fun g768 =>
        zsc S N (p23l4 + (3 : Int32)) fun g774 =>
        zsc S N (p23l4 + (4 : Int32)) fun g780 =>
        zat 1 n0 <| f_X1_tried n0 g762 g768 g774 g780 fun r781 =>
        zsc S N (p23l4 + (1 : Int32)) fun g790 =>
        zsc S N (p23l4 + (2 : Int32)) fun g796 =>
        zsc S N (p23l4 + (3 : Int32)) fun g802 =>
        zsc S N (p23l4 + (4 : Int32)) fun g808 =>
        zat 7 n8 <| f_X9_tried n8 g790 g796 g802 g808 fun r809 =>
        zif (r781 = r809) (
          j1746) (
          k (0 : Int32)),
        zsc S N (p23l4 + (1 : Int32)) fun g823 =>
        zsc S N (p23l4 + (2 : Int32)) fun g829 =>
        zsc S N (p23l4 + (3 : Int32)) fun g835 =>
        zsc S N (p23l4 + (4 : Int32)) fun g845 =>
        znm ((g835.toInt64 <<< ((32 : Int32).toInt64 &&& 63)) ||| (g845.toInt64 &&& (4294967295 : Int64))) fun v851 =>
        zat 1 n0 <| f_X1_fewest n0 g823 g829 v851 fun r852 =>
        zsc S N (p23l4 + (1 : Int32)) fun g861 =>
        zsc S N (p23l4 + (2 : Int32)) fun g867 =>
        zsc S N (p23l4 + (3 : Int32)) fun g873 =>
        zsc S N (p23l4 + (4 : Int32)) fun g883 =>
        znm ((g873.toInt64 <<< ((32 : Int32).toInt64 &&& 63)) ||| (g883.toInt64 &&& (4294967295 : Int64))) fun v889 =>
        zat 7 n8 <| f_X9_fewest n8 g861 g867 v889 fun r890 =>
        zif (r852 = r890) (
          j1746) (
          k (0 : Int32)),
        zsc S N (p23l4 + (1 : Int32)) fun g904 =>
        zsc S N (p23l4 + (2 : Int32)) fun g910 =>
        zsc S N (p23l4 + (3 : Int32)) fun g916 =>
        zsc S N (p23l4 + (4 : Int32)) fun g922 =>
        zat 1 n0 <| zcl 72 1334 (f_X1_add n0 g904 g910 g916 g922) fun r923 =>
        zsc S N (p23l4 + (1 : Int32)) fun g932 =>
        zsc S N (p23l4 + (2 : Int32)) fun g938 =>
        zsc S N (p23l4 + (3 : Int32)) fun g944 =>
        zsc S N (p23l4 + (4 : Int32)) fun g950 =>
        zat 7 n8 <| f_X9_add n8 g932 g938 g944 g950 fun r951 =>
        zif (r923 = r951) (
          j1746) (
          k (0 : Int32)),
        zsc S N (p23l4 + (1 : Int32)) fun g965 =>
        zsc S N (p23l4 + (2 : Int32)) fun g971 =>
        zsc S N (p23l4 + (3 : Int32)) fun g977 =>
        zsc S N (p23l4 + (4 : Int32)) fun g983 =>
        zat 1 n0 <| zcl 72 1334 (f_X1_drop n0 g965 g971 g977 g983) fun r984 =>
        zsc S N (p23l4 + (1 : Int32)) fun g993 =>
        zsc S N (p23l4 + (2 : Int32)) fun g999 =>
        zsc S N (p23l4 + (3 : Int32)) fun g1005 =>
        zsc S N (p23l4 + (4 : Int32)) fun g1011 =>
        zat 7 n8 <| f_X9_drop n8 g993 g999 g1005 g1011 fun r1012 =>
        zif (r984 = r1012) (
          j1746) (
          k (0 : Int32)),
        zsc S N (p23l4 + (1 : Int32)) fun g1026 =>
        zsc S N (p23l4 + (2 : Int32)) fun g1032 =>
        zsc S N (p23l4 + (3 : Int32)) fun g1038 =>
        zsc S N (p23l4 + (4 : Int32)) fun g1044 =>
        zsc S N (p23l4 + (5 : Int32)) fun g1050 =>
        zat 1 n0 <| zcl 72 1334 (f_X1_move n0 g1026 g1032 g1038 g1044 g1050) fun r1051 =>
        zsc S N (p23l4 + (1 : Int32)) fun g1060 =>
        zsc S N (p23l4 + (2 : Int32)) fun g1066 =>
        zsc S N (p23l4 + (3 : Int32)) fun g1072 =>
        zsc S N (p23l4 + (4 : Int32)) fun g1078 =>
        zsc S N (p23l4 + (5 : Int32)) fun g1084 =>
        zat 7 n8 <| f_X9_move n8 g1060 g1066 g1072 g1078 g1084 fun r1085 =>
        zif (r1051 = r1085) (
          j1746) (
          k (0 : Int32)),
        zsc S N (p23l4 + (1 : Int32)) fun g1099 =>
        zsc S N (p23l4 + (2 : Int32)) fun g1105 =>
        zat 1 n0 <| zcl 72 1334 (f_X1_build n0 g1099 g1105) fun r1106 =>
        zsc S N (p23l4 + (1 : Int32)) fun g1115 =>
        zsc S N (p23l4 + (2 : Int32)) fun g1121 =>
        zat 7 n8 <| f_X9_build n8 g1115 g1121 fun r1122 =>
        zif (r1106 = r1122) (
          j1746) (
          k (0 : Int32)),
        zsc S N (p23l4 + (1 : Int32)) fun g1136 =>
        zat 1 n0 <| zcl 72 1334 (f_X1_budget n0 g1136) fun r1137 =>
        zsc S N (p23l4 + (1 : Int32)) fun g1146 =>
        zat 7 n8 <| f_X9_budget n8 g1146 fun r1147 =>
        zif (r1137 = r1147) (
          j1746) (
          k (0 : Int32)),
        zsc S N (p23l4 + (1 : Int32)) fun g1161 =>
        zsc S N (p23l4 + (2 : Int32)) fun g1167 =>
        zsc S N (p23l4 + (3 : Int32)) fun g1177 =>
        znm ((g1167.toInt64 <<< ((32 : Int32).toInt64 &&& 63)) ||| (g1177.toInt64 &&& (4294967295 : Int64))) fun v1183 =>
        zat 1 n0 <| zcl 2880 53360 (f_X1_years n0 g1161 v1183) fun r1184 =>
        zsc S N (p23l4 + (1 : Int32)) fun g1193 =>
        zsc S N (p23l4 + (2 : Int32)) fun g1199 =>
        zsc S N (p23l4 + (3 : Int32)) fun g1209 =>
        znm ((g1199.toInt64 <<< ((32 : Int32).toInt64 &&& 63)) ||| (g1209.toInt64 &&& (4294967295 : Int64))) fun v1215 =>
        zat 7 n8 <| f_X9_years n8 g1193 v1215 fun r1216 =>
        zif (r1184 = r1216) (
          j1746) (
          k (0 : Int32)),
        zsc S N (p23l4 + (1 : Int32)) fun g1230 =>
        zat 1 n0 <| f_X1_status n0 g1230 fun r1231 =>
        zsc S N (p23l4 + (1 : Int32)) fun g1240 =>
        zat 7 n8 <| f_X9_status n8 g1240 fun r1241 =>
        zif (r1231 = r1241) (
          j1746) (
          k (0 : Int32)),
        zat 1 n0 <| f_X1_undo n0 fun r1250 =>
        zat 7 n8 <| f_X9_undo n8 fun r1254 =>
        zif (r1250 = r1254) (
          j1746) (
          k (0 : Int32)),
        zsc S N (p23l4 + (1 : Int32)) fun g1268 =>
        zsc S N (p23l4 + (2 : Int32)) fun g1274 =>
        zat 1 n0 <| f_X1_log n0 g1268 g1274 fun r1275 =>
        zsc S N (p23l4 + (1 : Int32)) fun g1284 =>
        zsc S N (p23l4 + (2 : Int32)) fun g1290 =>
        zat 7 n8 <| f_X9_log n8 g1284 g1290 fun r1291 =>
        zif (r1275 = r1291) (
          j1746) (
          k (0 : Int32)),
        zsc S N (p23l4 + (1 : Int32)) fun g1305 =>
        zsc S N (p23l4 + (2 : Int32)) fun g1311 =>
        zsc S N (p23l4 + (3 : Int32)) fun g1317 =>
        zat 1 n0 <| zcl 1 2 (f_X1_where n0 g1305 g1311 g1317) fun r1318 =>
        zsc S N (p23l4 + (1 : Int32)) fun g1327 =>
        zsc S N (p23l4 + (2 : Int32)) fun g1333 =>
        zsc S N (p23l4 + (3 : Int32)) fun g1339 =>
        zat 7 n8 <| f_X9_where n8 g1327 g1333 g1339 fun r1340 =>
        zif (r1318 = r1340) (
          j1746) (
          k (0 : Int32)),
        zsc S N (p23l4 + (1 : Int32)) fun g1354 =>
        zsc S N (p23l4 + (2 : Int32)) fun g1360 =>
        zsc S N (p23l4 + (3 : Int32)) fun g1366 =>
        zsc S N (p23l4 + (4 : Int32)) fun g1372 =>
        zsc S N (p23l4 + (5 : Int32)) fun g1378 =>
        zat 1 n0 <| zcl 2 4 (f_X1_join n0 g1354 g1360 g1366 g1372 g1378) fun r1379 =>
        zsc S N (p23l4 + (1 : Int32)) fun g1388 =>
        zsc S N (p23l4 + (2 : Int32)) fun g1394 =>
        zsc S N (p23l4 + (3 : Int32)) fun g1400 =>
        zsc S N (p23l4 + (4 : Int32)) fun g1406 =>
        zsc S N (p23l4 + (5 : Int32)) fun g1412 =>
        zat 7 n8 <| f_X9_join n8 g1388 g1394 g1400 g1406 g1412 fun r1413 =>
        zif ((lg_cmp r1379 r1413) = 0) (
          j1746) (
          k (0 : Int32)),
        zsc S N (p23l4 + (1 : Int32)) fun g1428 =>
        zat 1 n0 <| zcl 3 6 (f_X1_chain n0 g1428) fun r1429 =>
        zsc S N (p23l4 + (1 : Int32)) fun g1438 =>
        zat 7 n8 <| f_X9_chain n8 g1438 fun r1439 =>
        zif ((lg_cmp r1429 r1439) = 0) (
          j1746) (
          k (0 : Int32)),
        zsc S N (p23l4 + (1 : Int32)) fun g1454 =>
        zat 1 n0 <| f_X1_trace n0 g1454 fun r1455 =>
        zsc S N (p23l4 + (1 : Int32)) fun g1464 =>
        zat 7 n8 <| f_X9_trace n8 g1464 fun r1465 =>
        zif (r1455 = r1465) (
          j1746) (
          k (0 : Int32)),
        zsc S N (p23l4 + (1 : Int32)) fun g1479 =>
        zsc S N (p23l4 + (2 : Int32)) fun g1485 =>
        zsc S N (p23l4 + (3 : Int32)) fun g1491 =>
        zat 1 n0 <| f_X1_narrow n0 g1479 g1485 g1491 fun r1492 =>
        zsc S N (p23l4 + (1 : Int32)) fun g1501 =>
        zsc S N (p23l4 + (2 : Int32)) fun g1507 =>
        zsc S N (p23l4 + (3 : Int32)) fun g1513 =>
        zat 7 n8 <| f_X9_narrow n8 g1501 g1507 g1513 fun r1514 =>
        zif (r1492 = r1514) (
          j1746) (
          k (0 : Int32)),
        zsc S N (p23l4 + (1 : Int32)) fun g1528 =>
        zsc S N (p23l4 + (2 : Int32)) fun g1534 =>
        zsc S N (p23l4 + (3 : Int32)) fun g1540 =>
        zsc S N (p23l4 + (4 : Int32)) fun g1546 =>
        zat 1 n0 <| f_X1_odds n0 g1528 g1534 g1540 g1546 fun r1547 =>
        zsc S N (p23l4 + (1 : Int32)) fun g1556 =>
        zsc S N (p23l4 + (2 : Int32)) fun g1562 =>
        zsc S N (p23l4 + (3 : Int32)) fun g1568 =>
        zsc S N (p23l4 + (4 : Int32)) fun g1574 =>
        zat 7 n8 <| f_X9_odds n8 g1556 g1562 g1568 g1574 fun r1575 =>
        zif ((lg_cmp r1547 r1575) = 0) (
          j1746) (
          k (0 : Int32)),
        zsc S N (p23l4 + (1 : Int32)) fun g1590 =>
        zsc S N (p23l4 + (2 : Int32)) fun g1596 =>
        zsc S N (p23l4 + (3 : Int32)) fun g1602 =>
        zat 1 n0 <| f_X1_unit n0 g1590 g1596 g1602 fun r1603 =>
        zsc S N (p23l4 + (1 : Int32)) fun g1612 =>
        zsc S N (p23l4 + (2 : Int32)) fun g1618 =>
        zsc S N (p23l4 + (3 : Int32)) fun g1624 =>
        zat 7 n8 <| f_X9_unit n8 g1612 g1618 g1624 fun r1625 =>
        zif (r1603 = r1625) (
          j1746) (
          k (0 : Int32)),
        zsc S N (p23l4 + (1 : Int32)) fun g1639 =>
        zsc S N (p23l4 + (2 : Int32)) fun g1645 =>
        zat 1 n0 <| f_X1_shares n0 g1639 g1645 fun r1646 =>
        zsc S N (p23l4 + (1 : Int32)) fun g1655 =>
        zsc S N (p23l4 + (2 : Int32)) fun g1661 =>
        zat 7 n8 <| f_X9_shares n8 g1655 g1661 fun r1662 =>
        zif (r1646 = r1662) (
          j1746) (
          k (0 : Int32)),
        zsc S N (p23l4 + (1 : Int32)) fun g1676 =>
        zat 1 n0 <| f_X1_most n0 g1676 fun r1677 =>
        zsc S N (p23l4 + (1 : Int32)) fun g1686 =>
        zat 7 n8 <| f_X9_most n8 g1686 fun r1687 =>
        zif (r1677 = r1687) (
          j1746) (
          k (0 : Int32)),
        zat 1 n0 <| f_X1_image n0 fun r1696 =>
        zat 7 n8 <| f_X9_image n8 fun r1700 =>
        zif (r1696 = r1700) (
          j1746) (
          k (0 : Int32)),
        zat 1 n0 <| f_X1_back n0 fun r1709 =>
        zat 7 n8 <| f_X9_back n8 fun r1713 =>
        zif (r1709 = r1713) (
          j1746) (
          k (0 : Int32)),
        zsc S N (p23l4 + (1 : Int32)) fun g1727 =>
        zat 1 n0 <| f_X1_count n0 g1727 fun r1728 =>
        zsc S N (p23l4 + (1 : Int32)) fun g1737 =>
        zat 7 n8 <| f_X9_count n8 g1737 fun r1738 =>
        zif (r1728 = r1738) (
          j1746) (
          k (0 : Int32))] (
        j1746))
def f_L_law (S : Nat → Int32) (N : Nat) (k : Int32 → ZM → Prop) : ZM → Prop :=
  znO 1 29 fun n0 =>
  zat 1 n0 <| zclv 214 4045 (f_X1_init n0) <|
  znO 7 33 fun n8 =>
  zat 7 n8 <| zclv 18 54537 (f_X9_init n8) <|
  znA 51 (1 : Int32) fun n17 =>
  f_L_law_L23 S N k n0 n8 n17 (0 : Int32)
