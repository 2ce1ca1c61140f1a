def f_X9_init (h0 : Nat) (k : ZM → Prop) : ZM → Prop :=
  zne h0 0 <|
  znA 50 (240 : Int32) fun n8 =>
  zpR 7 h0 1 n8 <|
  znA 50 (3 : Int32) fun n15 =>
  zpR 7 h0 5 n15 <|
  znA 50 (3 : Int32) fun n22 =>
  zpR 7 h0 6 n22 <|
  znA 50 (80 : Int32) fun n30 =>
  zpR 7 h0 7 n30 <|
  znA 50 (3 : Int32) fun n37 =>
  zpR 7 h0 10 n37 <|
  znA 50 (3 : Int32) fun n44 =>
  zpR 7 h0 11 n44 <|
  znA 50 (120 : Int32) fun n52 =>
  zpR 7 h0 13 n52 <|
  znA 50 (5 : Int32) fun n59 =>
  zpR 7 h0 14 n59 <|
  znA 50 (1253 : Int32) fun n68 =>
  zpR 7 h0 16 n68 <|
  znA 50 (5 : Int32) fun n75 =>
  zpR 7 h0 17 n75 <|
  znA 50 (16 : Int32) fun n83 =>
  zpR 7 h0 18 n83 <|
  znA 51 (306 : Int32) fun n92 =>
  zpR 7 h0 20 n92 <|
  znA 50 (17 : Int32) fun n100 =>
  zpR 7 h0 21 n100 <|
  znA 50 (50120 : Int32) fun n108 =>
  zpR 7 h0 22 n108 <|
  znA 50 (6 : Int32) fun n116 =>
  zpR 7 h0 25 n116 <|
  znA 50 (32 : Int32) fun n124 =>
  zpR 7 h0 29 n124 <|
  znA 50 (1072 : Int32) fun n133 =>
  zpR 7 h0 30 n133 <|
  znA 50 (1253 : Int32) fun n142 =>
  zpR 7 h0 31 n142 <|
  k
def f_X9_thrown (h0 : Nat) (k : Int32 → ZM → Prop) : ZM → Prop :=
  zgI 7 h0 0 fun g1 =>
  k g1
def f_X9_byteOf (x0 : Int32) (x1 : Int32) (x2 : Int32) (x3 : Int32) (x4 : Int32) (x5 : Int32) (k : Int32 → ZM → Prop) : ZM → Prop :=
  zjn (fun (p45s0 : Int32) =>
      zne (4 : Int32) 0 <|
      znm (p45s0 >>> (((24 : Int32) - ((8 : Int32) * (x5 - x5 / (4 : Int32) * (4 : Int32)))) &&& 31)) fun v59 =>
      k (v59 &&& (255 : Int32))) fun j45 =>
  zif ((4 : Int32) ≤ x5) (
    zif ((8 : Int32) ≤ x5) (
      zif ((12 : Int32) ≤ x5) (
        zif ((16 : Int32) ≤ x5) (
          j45 x4) (
          j45 x3)) (
        j45 x2)) (
      j45 x1)) (
    j45 x0)
def f_X9_feed_L62 (h0 : Nat) (x1 : Int32) (x2 : Int32) (x3 : Int32) (x4 : Int32) (x5 : Int32) (k : Int32 → ZM → Prop) : Int32 → ZM → Prop :=
  zw1 fun r62 p62l7 =>
    zif ((20 : Int32) ≤ p62l7) (
      zgI 7 h0 2 fun g116 =>
      k g116) (
      f_X9_byteOf x1 x2 x3 x4 x5 p62l7 fun r78 =>
      zjn (
          r62 (p62l7 + (1 : Int32))) fun j109 =>
      zif (r78 = 0) (
        j109) (
        zgR 7 h0 1 fun g89 =>
        zgI 7 h0 2 fun g93 =>
        zbI 50 g89 g93 r78 <|
        zgI 7 h0 2 fun g101 =>
        zpI 7 h0 2 (g101 + (1 : Int32)) <|
        j109))
def f_X9_feed_L6 (x1 : Int32) (x2 : Int32) (x3 : Int32) (x4 : Int32) (x5 : Int32) (j44 : Int32 → ZM → Prop) : Int32 → Int32 → ZM → Prop :=
  zw2 fun r6 p6l6 p6l7 =>
    zif ((20 : Int32) ≤ p6l7) (
      j44 p6l6) (
      f_X9_byteOf x1 x2 x3 x4 x5 p6l7 fun r24 =>
      zjn (fun (p35s1 : Int32) =>
          r6 (p6l6 + p35s1) (p6l7 + (1 : Int32))) fun j35 =>
      zif (r24 = 0) (
        j35 (0 : Int32)) (
        j35 (1 : Int32)))
def f_X9_feed (h0 : Nat) (x1 : Int32) (x2 : Int32) (x3 : Int32) (x4 : Int32) (x5 : Int32) (k : Int32 → ZM → Prop) : ZM → Prop :=
  zjn (fun (p44l6 : Int32) =>
      zgI 7 h0 2 fun g45 =>
      zif ((g45 + p44l6) ≤ (240 : Int32)) (
        f_X9_feed_L62 h0 x1 x2 x3 x4 x5 k (0 : Int32)) (
        k (-1 : Int32))) fun j44 =>
  f_X9_feed_L6 x1 x2 x3 x4 x5 j44 (0 : Int32) (0 : Int32)
def f_X9_in (x0 : Int64) (x2 : Int64) (x4 : Int64) (k : Int32 → ZM → Prop) : ZM → Prop :=
  zjn (fun (p18s0 : Int32) =>
      zrz p18s0 k) fun j18 =>
  zjn (
      j18 (0 : Int32)) fun j17 =>
  zif ((lg_cmp x0 x2) < 0) (
    j17) (
    zif (0 < (lg_cmp x0 x4)) (
      j17) (
      j18 (1 : Int32)))
def f_X9_end (h0 : Nat) (x1 : Int32) (k : Int32 → ZM → Prop) : ZM → Prop :=
  zgI 7 h0 2 fun g4 =>
  f_X9_in x1.toInt64 (0 : Int64) g4.toInt64 fun r8 =>
  zif (r8 = 0) (
    zrz (0 : Int32) k) (
    zpI 7 h0 2 x1 <|
    zrz (1 : Int32) k)
def f_X9_usual (x0 : Int32) (x1 : Int32) (k : Int32 → ZM → Prop) : ZM → Prop :=
  zif (x0 = (116 : Int32)) (
    k (8 : Int32)) (
    zif (x0 = (115 : Int32)) (
      zjn (fun (p36s0 : Int32) =>
          k p36s0) fun j36 =>
      zif (x1 = 0) (
        j36 (3 : Int32)) (
        zif (x1 = (1 : Int32)) (
          j36 (20 : Int32)) (
          j36 (999 : Int32)))) (
      zjn (fun (p55s0 : Int32) =>
          k p55s0) fun j55 =>
      zif (x1 = 0) (
        j55 (0 : Int32)) (
        zif (x1 = (3 : Int32)) (
          j55 (1 : Int32)) (
          j55 (-1 : Int32)))))
def f_X9_here (h0 : Nat) (k : Int32 → ZM → Prop) : ZM → Prop :=
  zgI 7 h0 3 fun g1 =>
  zgI 7 h0 2 fun g5 =>
  zjn (fun (p24s0 : Int32) =>
      k p24s0) fun j24 =>
  zif (g5 ≤ g1) (
    j24 (-1 : Int32)) (
    zgR 7 h0 1 fun g12 =>
    zgI 7 h0 3 fun g16 =>
    zaI 50 g12 g16 fun g19 =>
    j24 g19)
def f_X9_ahead_L0 (h0 : Nat) (j22 : ZM → Prop) : ZM → Prop :=
  zw0 fun r0 =>
    zat 7 h0 <| f_X9_here h0 fun r1 =>
    zif (r1 = (32 : Int32)) (
      zgI 7 h0 3 fun g11 =>
      zpI 7 h0 3 (g11 + (1 : Int32)) <|
      r0) (
      j22)
def f_X9_ahead (h0 : Nat) (k : Int32 → ZM → Prop) : ZM → Prop :=
  zjn (
      zat 7 h0 <| f_X9_here h0 fun r23 =>
      k r23) fun j22 =>
  f_X9_ahead_L0 h0 j22
def f_X9_itemOf (x0 : Int32) (x1 : Int32) (k : Int32 → ZM → Prop) : ZM → Prop :=
  zif (x0 = (116 : Int32)) (
    zjn (fun (p17s0 : Int32) =>
        k p17s0) fun j17 =>
    zif (x1 = (118 : Int32)) (
      j17 (0 : Int32)) (
      j17 (-1 : Int32))) (
    zif (x0 = (115 : Int32)) (
      zjn (fun (p55s0 : Int32) =>
          k p55s0) fun j55 =>
      zif (x1 = (98 : Int32)) (
        j55 (0 : Int32)) (
        zif (x1 = (100 : Int32)) (
          j55 (1 : Int32)) (
          zif (x1 = (113 : Int32)) (
            j55 (2 : Int32)) (
            j55 (-1 : Int32))))) (
      zjn (fun (p97s0 : Int32) =>
          k p97s0) fun j97 =>
      zif (x1 = (116 : Int32)) (
        j97 (0 : Int32)) (
        zif (x1 = (97 : Int32)) (
          j97 (1 : Int32)) (
          zif (x1 = (98 : Int32)) (
            j97 (2 : Int32)) (
            zif (x1 = (110 : Int32)) (
              j97 (3 : Int32)) (
              j97 (-1 : Int32)))))))
def f_X9_has (x0 : Int32) (x1 : Int32) (k : Int32 → ZM → Prop) : ZM → Prop :=
  zjn (fun (p14s0 : Int32) =>
      zrz p14s0 k) fun j14 =>
  zif (((x0 >>> (x1 &&& 31)) &&& (1 : Int32)) = (1 : Int32)) (
    j14 (1 : Int32)) (
    j14 (0 : Int32))
def f_X9_lowest (x0 : Int32) (x1 : Int32) (k : Int32 → ZM → Prop) : ZM → Prop :=
  zif (x0 = (116 : Int32)) (
    k (2 : Int32)) (
    zjn (fun (p37s0 : Int32) =>
        k p37s0) fun j37 =>
    zif (x0 = (115 : Int32)) (
      zif (x1 = (1 : Int32)) (
        j37 (0 : Int32)) (
        j37 (1 : Int32))) (
      zif (x1 = (3 : Int32)) (
        j37 (1 : Int32)) (
        j37 (0 : Int32))))
def f_X9_highest (x0 : Int32) (x1 : Int32) (k : Int32 → ZM → Prop) : ZM → Prop :=
  zif (x0 = (116 : Int32)) (
    k (16 : Int32)) (
    zif (x0 = (115 : Int32)) (
      zjn (fun (p37s0 : Int32) =>
          k p37s0) fun j37 =>
      zif (x1 = 0) (
        j37 (8 : Int32)) (
        zif (x1 = (1 : Int32)) (
          j37 (99 : Int32)) (
          j37 (999 : Int32)))) (
      zjn (fun (p58s0 : Int32) =>
          k p58s0) fun j58 =>
      zif (x1 = 0) (
        j58 (2 : Int32)) (
        zif (x1 = (3 : Int32)) (
          j58 (40 : Int32)) (
          j58 (15 : Int32)))))
def f_X9_isDigit (x0 : Int32) (k : Int32 → ZM → Prop) : ZM → Prop :=
  zjn (fun (p17s0 : Int32) =>
      zrz p17s0 k) fun j17 =>
  zjn (
      j17 (0 : Int32)) fun j16 =>
  zif (x0 < (48 : Int32)) (
    j16) (
    zif ((57 : Int32) < x0) (
      j16) (
      j17 (1 : Int32)))
def f_X9_bad (h0 : Nat) (k : ZM → Prop) : ZM → Prop :=
  zgI 7 h0 4 fun g2 =>
  zjn (fun (p20s1 : Int32) =>
      zpI 7 h0 4 p20s1 <|
      k) fun j20 =>
  zif (g2 = (-1 : Int32)) (
    zgI 7 h0 3 fun g10 =>
    j20 g10) (
    zgI 7 h0 4 fun g17 =>
    j20 g17)
def f_X9_number_L22 (h0 : Nat) (x1 : Int32) (j69 : Int32 → ZM → Prop) : Int32 → Int32 → ZM → Prop :=
  zw2 fun r22 p22l4 p22l5 =>
    zif (x1 ≤ p22l5) (
      j69 p22l4) (
      zat 7 h0 <| f_X9_here h0 fun r29 =>
      f_X9_isDigit r29 fun r32 =>
      zif (r32 = 0) (
        j69 p22l4) (
        zat 7 h0 <| f_X9_here h0 fun r44 =>
        zgI 7 h0 3 fun g55 =>
        zpI 7 h0 3 (g55 + (1 : Int32)) <|
        r22 ((((10 : Int32) * p22l4) + r44) - (48 : Int32)) (p22l5 + (1 : Int32))))
def f_X9_number (h0 : Nat) (x1 : Int32) (x2 : Int32) (x3 : Int32) (k : Int32 → ZM → Prop) : ZM → Prop :=
  zat 7 h0 <| f_X9_ahead h0 fun r1 =>
  f_X9_isDigit r1 fun r4 =>
  zif (r4 = 0) (
    zat 7 h0 <| f_X9_bad h0 <|
    k x2) (
    zjn (fun (p69l4 : Int32) =>
        zat 7 h0 <| f_X9_here h0 fun r70 =>
        f_X9_isDigit r70 fun r73 =>
        zjn (
            k p69l4) fun j113 =>
        zif (r73 = 0) (
          f_X9_in p69l4.toInt64 x2.toInt64 x3.toInt64 fun r93 =>
          zif (r93 = 0) (
            zgI 7 h0 3 fun g101 =>
            zpI 7 h0 3 (g101 - (1 : Int32)) <|
            zat 7 h0 <| f_X9_bad h0 <|
            j113) (
            j113)) (
          zat 7 h0 <| f_X9_bad h0 <|
          j113)) fun j69 =>
    f_X9_number_L22 h0 x1 j69 (0 : Int32) (0 : Int32))
def f_X9_items_L41 (h0 : Nat) (x1 : Int32) (h2 : Nat) (x3 : Int32) (j132 : ZM → Prop) : Int32 → Int32 → ZM → Prop :=
  zw2 fun r41 p41l5 p41l6 =>
    zgI 7 h0 4 fun g42 =>
    zif (g42 = (-1 : Int32)) (
      zif (p41l6 = (-1 : Int32)) (
        j132) (
        f_X9_has p41l5 p41l6 fun r59 =>
        zif (r59 = 0) (
          zgI 7 h0 3 fun g76 =>
          zpI 7 h0 3 (g76 + (1 : Int32)) <|
          f_X9_lowest x1 p41l6 fun r94 =>
          f_X9_highest x1 p41l6 fun r100 =>
          zat 7 h0 <| f_X9_number h0 (3 : Int32) r94 r100 fun r103 =>
          zbI 50 h2 (x3 + p41l6) r103 <|
          zgI 7 h0 4 fun g108 =>
          zjn (fun (p127s0 : Int32) =>
              r41 (p41l5 ||| ((1 : Int32) <<< (p41l6 &&& 31))) p127s0) fun j127 =>
          zif (g108 = (-1 : Int32)) (
            zat 7 h0 <| f_X9_ahead h0 fun r117 =>
            f_X9_itemOf x1 r117 fun r120 =>
            j127 r120) (
            j127 (-1 : Int32))) (
          j132))) (
      j132)
def f_X9_items_L3 (x1 : Int32) (h2 : Nat) (x3 : Int32) (x4 : Int32) (j28 : ZM → Prop) : Int32 → ZM → Prop :=
  zw1 fun r3 p3l5 =>
    zif (x4 ≤ p3l5) (
      j28) (
      f_X9_usual x1 p3l5 fun r18 =>
      zbI 50 h2 (x3 + p3l5) r18 <|
      r3 (p3l5 + (1 : Int32)))
def f_X9_items (h0 : Nat) (x1 : Int32) (h2 : Nat) (x3 : Int32) (x4 : Int32) (k : ZM → Prop) : ZM → Prop :=
  zjn (
      zat 7 h0 <| f_X9_ahead h0 fun r33 =>
      f_X9_itemOf x1 r33 fun r36 =>
      zjn (
          k) fun j132 =>
      f_X9_items_L41 h0 x1 h2 x3 j132 (0 : Int32) r36) fun j28 =>
  f_X9_items_L3 x1 h2 x3 x4 j28 (0 : Int32)
def f_X9_isWhole_L15 (h0 : Nat) (j96 : Int32 → ZM → Prop) : Int32 → Int32 → ZM → Prop :=
  zw2 fun r15 p15l1 p15l2 =>
    zgI 7 h0 9 fun g17 =>
    zif (g17 ≤ p15l2) (
      j96 p15l1) (
      zif (p15l1 = 0) (
        j96 p15l1) (
        zgR 7 h0 7 fun g28 =>
        zaI 50 g28 (((4 : Int32) * p15l2) + (0 : Int32)) fun g36 =>
        zgI 7 h0 8 fun g40 =>
        zjn (fun (p89s0 : Int32) =>
            r15 p89s0 (p15l2 + (1 : Int32))) fun j89 =>
        zjn (
            j89 (0 : Int32)) fun j88 =>
        zif (g40 ≤ g36) (
          j88) (
          zgR 7 h0 7 fun g47 =>
          zaI 50 g47 (((4 : Int32) * p15l2) + (1 : Int32)) fun g55 =>
          zgR 7 h0 6 fun g57 =>
          zaI 50 g57 g36 fun g61 =>
          zif (g61 ≤ g55) (
            j88) (
            zgR 7 h0 7 fun g66 =>
            zaI 50 g66 (((4 : Int32) * p15l2) + (2 : Int32)) fun g74 =>
            zgR 7 h0 6 fun g76 =>
            zaI 50 g76 g36 fun g80 =>
            zif (g80 ≤ g74) (
              j88) (
              j89 (1 : Int32))))))
def f_X9_isWhole (h0 : Nat) (k : Int32 → ZM → Prop) : ZM → Prop :=
  zgI 7 h0 8 fun g1 =>
  zjn (fun (p12s0 : Int32) =>
      zjn (fun (p96l1 : Int32) =>
          zrz p96l1 k) fun j96 =>
      f_X9_isWhole_L15 h0 j96 p12s0 (0 : Int32)) fun j12 =>
  zif (g1 ≤ 0) (
    j12 (0 : Int32)) (
    j12 (1 : Int32))
def f_X9_readBook_L49 (h0 : Nat) (j255 : ZM → Prop) : Int32 → Int32 → ZM → Prop :=
  zw2 fun r49 p49l1 p49l2 =>
    zif (p49l2 = 0) (
      j255) (
      zgI 7 h0 4 fun g54 =>
      zif (g54 = (-1 : Int32)) (
        zat 7 h0 <| f_X9_ahead h0 fun r62 =>
        zjn (fun (p211l1 : Int32) =>
            zgI 7 h0 4 fun g212 =>
            zjn (fun (p233s0 : Int32) =>
                zgI 7 h0 3 fun g236 =>
                zjn (fun (p248s2 : Int32) =>
                    zpI 7 h0 3 (g236 + p248s2) <|
                    r49 p211l1 p233s0) fun j248 =>
                zif (p233s0 = 0) (
                  j248 (0 : Int32)) (
                  j248 (1 : Int32))) fun j233 =>
            zjn (
                j233 (0 : Int32)) fun j232 =>
            zif (g212 = (-1 : Int32)) (
              zat 7 h0 <| f_X9_ahead h0 fun r220 =>
              zif (r220 = (59 : Int32)) (
                j233 (1 : Int32)) (
                j232)) (
              j232)) fun j211 =>
        zjn (
            zjn (
                zjn (
                    zat 7 h0 <| f_X9_bad h0 <|
                    j211 p49l1) fun j207 =>
                zif (r62 = (114 : Int32)) (
                  zgI 7 h0 9 fun g160 =>
                  zif ((20 : Int32) ≤ g160) (
                    j207) (
                    zgI 7 h0 3 fun g170 =>
                    zpI 7 h0 3 (g170 + (1 : Int32)) <|
                    zgR 7 h0 7 fun g181 =>
                    zgI 7 h0 9 fun g186 =>
                    zat 7 h0 <| f_X9_items h0 r62 g181 ((4 : Int32) * g186) (4 : Int32) <|
                    zgI 7 h0 9 fun g196 =>
                    zpI 7 h0 9 (g196 + (1 : Int32)) <|
                    j211 p49l1)) (
                  j207)) fun j153 =>
            zif (r62 = (116 : Int32)) (
              zgI 7 h0 8 fun g109 =>
              zif ((3 : Int32) ≤ g109) (
                j153) (
                zgI 7 h0 3 fun g118 =>
                zpI 7 h0 3 (g118 + (1 : Int32)) <|
                zgR 7 h0 6 fun g129 =>
                zgI 7 h0 8 fun g133 =>
                zat 7 h0 <| f_X9_items h0 r62 g129 g133 (1 : Int32) <|
                zgI 7 h0 8 fun g142 =>
                zpI 7 h0 8 (g142 + (1 : Int32)) <|
                j211 p49l1)) (
              j153)) fun j102 =>
        zif (r62 = (115 : Int32)) (
          zif (p49l1 = 0) (
            zgI 7 h0 3 fun g80 =>
            zpI 7 h0 3 (g80 + (1 : Int32)) <|
            zgR 7 h0 5 fun g91 =>
            zat 7 h0 <| f_X9_items h0 r62 g91 (0 : Int32) (3 : Int32) <|
            j211 (1 : Int32)) (
            j102)) (
          j102)) (
        j255))
def f_X9_readBook_L24 (h0 : Nat) (j47 : ZM → Prop) : Int32 → ZM → Prop :=
  zw1 fun r24 p24l2 =>
    zif ((3 : Int32) ≤ p24l2) (
      j47) (
      zgR 7 h0 5 fun g30 =>
      f_X9_usual (115 : Int32) p24l2 fun r37 =>
      zbI 50 g30 p24l2 r37 <|
      r24 (p24l2 + (1 : Int32)))
def f_X9_readBook (h0 : Nat) (k : Int32 → ZM → Prop) : ZM → Prop :=
  zpI 7 h0 3 (0 : Int32) <|
  zpI 7 h0 4 (-1 : Int32) <|
  zpI 7 h0 8 (0 : Int32) <|
  zpI 7 h0 9 (0 : Int32) <|
  zjn (
      zjn (
          zgI 7 h0 4 fun g256 =>
          zjn (
              zgI 7 h0 4 fun g283 =>
              k g283) fun j282 =>
          zif (g256 = (-1 : Int32)) (
            zat 7 h0 <| f_X9_ahead h0 fun r264 =>
            zjn (
                zat 7 h0 <| f_X9_bad h0 <|
                j282) fun j278 =>
            zif (r264 = (-1 : Int32)) (
              zat 7 h0 <| f_X9_isWhole h0 fun r272 =>
              zif (r272 = 0) (
                j278) (
                j282)) (
              j278)) (
            j282)) fun j255 =>
      f_X9_readBook_L49 h0 j255 (0 : Int32) (1 : Int32)) fun j47 =>
  f_X9_readBook_L24 h0 j47 (0 : Int32)
def f_X9_readUnit (h0 : Nat) (x1 : Int32) (x2 : Int32) (k : ZM → Prop) : ZM → Prop :=
  zat 7 h0 <| f_X9_ahead h0 fun r1 =>
  zjn (
      zat 7 h0 <| f_X9_bad h0 <|
      k) fun j28 =>
  zjn (
      zgR 7 h0 14 fun g18 =>
      zaI 50 g18 x1 fun g22 =>
      zif (g22 = (6 : Int32)) (
        j28) (
        zgR 7 h0 14 fun g39 =>
        zaI 50 g39 x1 fun g43 =>
        zgR 7 h0 13 fun g49 =>
        zbI 50 g49 ((4 : Int32) * (((6 : Int32) * x1) + g43)) x2 <|
        zgR 7 h0 13 fun g57 =>
        zbI 50 g57 (((4 : Int32) * (((6 : Int32) * x1) + g43)) + (1 : Int32)) (r1 - (97 : Int32)) <|
        zgR 7 h0 13 fun g70 =>
        zbI 50 g70 (((4 : Int32) * (((6 : Int32) * x1) + g43)) + (3 : Int32)) (-1 : Int32) <|
        zgI 7 h0 3 fun g81 =>
        zpI 7 h0 3 (g81 + (1 : Int32)) <|
        zat 7 h0 <| f_X9_ahead h0 fun r90 =>
        zgR 7 h0 13 fun g96 =>
        zjn (fun (p148s2 : Int32) =>
            zbI 50 g96 (((4 : Int32) * (((6 : Int32) * x1) + g43)) + (2 : Int32)) p148s2 <|
            zgR 7 h0 13 fun g150 =>
            zaI 50 g150 (((4 : Int32) * (((6 : Int32) * x1) + g43)) + (2 : Int32)) fun g157 =>
            zif (g157 = (-1 : Int32)) (
              zat 7 h0 <| f_X9_bad h0 <|
              k) (
              zgI 7 h0 3 fun g169 =>
              zpI 7 h0 3 (g169 + (1 : Int32)) <|
              zjn (
                  zgR 7 h0 14 fun g202 =>
                  zaI 50 g202 x1 fun g207 =>
                  zbI 50 g202 x1 (g207 + (1 : Int32)) <|
                  k) fun j201 =>
              zif (r90 = (63 : Int32)) (
                j201) (
                zgR 7 h0 13 fun g185 =>
                zat 7 h0 <| f_X9_number h0 (2 : Int32) (0 : Int32) (99 : Int32) fun r197 =>
                zbI 50 g185 (((4 : Int32) * (((6 : Int32) * x1) + g43)) + (3 : Int32)) r197 <|
                j201))) fun j148 =>
        zif (r90 = (61 : Int32)) (
          j148 (0 : Int32)) (
          zif (r90 = (60 : Int32)) (
            j148 (1 : Int32)) (
            zif (r90 = (62 : Int32)) (
              j148 (2 : Int32)) (
              zif (r90 = (63 : Int32)) (
                j148 (3 : Int32)) (
                j148 (-1 : Int32))))))) fun j17 =>
  zif (r1 = (97 : Int32)) (
    j17) (
    zif (r1 = (98 : Int32)) (
      j17) (
      j28))
def f_X9_readWhere_L21 (h0 : Nat) (x1 : Int32) (j105 : ZM → Prop) : Int32 → Int32 → ZM → Prop :=
  zw2 fun r21 p21l2 p21l3 =>
    zif (p21l3 = 0) (
      j105) (
      zat 7 h0 <| f_X9_readUnit h0 x1 p21l2 <|
      zgI 7 h0 4 fun g32 =>
      zjn (fun (p47s0 : Int32) =>
          zjn (fun (p68s0 : Int32) =>
              zgI 7 h0 3 fun g71 =>
              zjn (fun (p83s2 : Int32) =>
                  zpI 7 h0 3 (g71 + p83s2) <|
                  zjn (fun (p100s1 : Int32) =>
                      r21 (p21l2 + p100s1) p68s0) fun j100 =>
                  zif (p47s0 = (124 : Int32)) (
                    j100 (1 : Int32)) (
                    j100 (0 : Int32))) fun j83 =>
              zif (p68s0 = 0) (
                j83 (0 : Int32)) (
                j83 (1 : Int32))) fun j68 =>
          zjn (
              j68 (1 : Int32)) fun j63 =>
          zif (p47s0 = (38 : Int32)) (
            j63) (
            zif (p47s0 = (124 : Int32)) (
              j63) (
              j68 (0 : Int32)))) fun j47 =>
      zif (g32 = (-1 : Int32)) (
        zat 7 h0 <| f_X9_ahead h0 fun r40 =>
        j47 r40) (
        j47 (-1 : Int32)))
def f_X9_readWhere (h0 : Nat) (x1 : Int32) (k : Int32 → ZM → Prop) : ZM → Prop :=
  zpI 7 h0 3 (0 : Int32) <|
  zpI 7 h0 4 (-1 : Int32) <|
  zgR 7 h0 14 fun g11 =>
  zbI 50 g11 x1 (0 : Int32) <|
  zjn (
      zgI 7 h0 4 fun g106 =>
      zjn (
          zgI 7 h0 4 fun g126 =>
          k g126) fun j125 =>
      zif (g106 = (-1 : Int32)) (
        zat 7 h0 <| f_X9_ahead h0 fun r114 =>
        zif (r114 = (-1 : Int32)) (
          j125) (
          zat 7 h0 <| f_X9_bad h0 <|
          j125)) (
        j125)) fun j105 =>
  f_X9_readWhere_L21 h0 x1 j105 (0 : Int32) (1 : Int32)
def f_X9_fault (h0 : Nat) (x1 : Int32) (k : Int32 → ZM → Prop) : ZM → Prop :=
  zjn (fun (p26s0 : Int32) =>
      k p26s0) fun j26 =>
  zif (x1 = 0) (
    zat 7 h0 <| f_X9_readBook h0 fun r5 =>
    j26 r5) (
    zif (x1 = (1 : Int32)) (
      zat 7 h0 <| f_X9_readWhere h0 (4 : Int32) fun r18 =>
      j26 r18) (
      j26 (-2 : Int32)))
def f_X9_place (x0 : Int32) (x1 : Int32) (x2 : Int32) (k : Int32 → ZM → Prop) : ZM → Prop :=
  zjn (fun (p18s2 : Int32) =>
      zjn (fun (p31s1 : Int32) =>
          k ((((357 : Int32) * x0) + ((17 : Int32) * p18s2)) + p31s1)) fun j31 =>
      zif (x2 = (-1 : Int32)) (
        j31 (16 : Int32)) (
        j31 x2)) fun j18 =>
  zif (x1 = (-1 : Int32)) (
    j18 (16 : Int32)) (
    j18 x1)
def f_X9_countAt_L6 (h0 : Nat) (x1 : Int32) (x2 : Int32) (x3 : Int32) (k : Int32 → ZM → Prop) : Int32 → Int32 → ZM → Prop :=
  zw2 fun r6 p6l4 p6l5 =>
    zif ((17 : Int32) ≤ p6l5) (
      k p6l4) (
      zjn (fun (p26s0 : Int32) =>
          zgR 7 h0 16 fun g31 =>
          zjn (fun (p55s2 : Int32) =>
              zaI 50 g31 p55s2 fun g55 =>
              r6 (p6l4 + g55) (p6l5 + (1 : Int32))) fun j55 =>
          zif (x2 = 0) (
            f_X9_place x1 x3 p26s0 fun r42 =>
            j55 r42) (
            f_X9_place x1 p26s0 x3 fun r52 =>
            j55 r52)) fun j26 =>
      zif (p6l5 = (16 : Int32)) (
        j26 (-1 : Int32)) (
        j26 p6l5))
def f_X9_countAt (h0 : Nat) (x1 : Int32) (x2 : Int32) (x3 : Int32) (k : Int32 → ZM → Prop) : ZM → Prop :=
  f_X9_countAt_L6 h0 x1 x2 x3 k (0 : Int32) (0 : Int32)
def f_X9_layCounts_L12 (h0 : Nat) (x1 : Int32) (x2 : Int32) (k : ZM → Prop) : Int32 → ZM → Prop :=
  zw1 fun r12 p12l3 =>
    zgI 7 h0 19 fun g14 =>
    zif (g14 ≤ p12l3) (
      k) (
      zgR 7 h0 18 fun g21 =>
      zat 7 h0 <| f_X9_countAt h0 x1 x2 p12l3 fun r29 =>
      zbI 50 g21 p12l3 r29 <|
      r12 (p12l3 + (1 : Int32)))
def f_X9_layCounts (h0 : Nat) (x1 : Int32) (x2 : Int32) (k : ZM → Prop) : ZM → Prop :=
  zgR 7 h0 11 fun g2 =>
  zaI 50 g2 x1 fun g6 =>
  zpI 7 h0 19 g6 <|
  f_X9_layCounts_L12 h0 x1 x2 k (0 : Int32)
def f_X9_leastAt (x0 : Int32) (x1 : Int32) (k : Int32 → ZM → Prop) : ZM → Prop :=
  k (((18 : Int32) * x0) + x1)
def f_X9_errorOf_L8 (h0 : Nat) (x2 : Int32) (j53 : Int64 → Int64 → ZM → Prop) : Int64 → Int64 → Int32 → ZM → Prop :=
  zw3 fun r8 p8l3 p8l5 p8l7 =>
    zif (x2 ≤ p8l7) (
      j53 p8l3 p8l5) (
      zgR 7 h0 18 fun g16 =>
      zaI 50 g16 p8l7 fun g21 =>
      zgR 7 h0 18 fun g24 =>
      zaI 50 g24 p8l7 fun g29 =>
      zgR 7 h0 18 fun g37 =>
      zaI 50 g37 p8l7 fun g42 =>
      r8 (p8l3 + (g21.toInt64 * g29.toInt64)) (p8l5 + g42.toInt64) (p8l7 + (1 : Int32)))
def f_X9_errorOf (h0 : Nat) (x1 : Int32) (x2 : Int32) (k : Int64 → ZM → Prop) : ZM → Prop :=
  zjn (fun (p53l3 : Int64) (p53l5 : Int64) =>
      zne ((x2 - x1).toInt64) 0 <|
      znm (((720720 : Int64) * p53l3) - ((((720720 : Int64) / (x2 - x1).toInt64) * p53l5) * p53l5)) fun v72 =>
      k v72) fun j53 =>
  f_X9_errorOf_L8 h0 x2 j53 (0 : Int64) (0 : Int64) x1
def f_X9_layLeast_L42 (h0 : Nat) (j107 : Int32 → Int32 → Int64 → ZM → Prop) : Int32 → Int32 → Int64 → Int32 → ZM → Prop :=
  zw4 fun r42 p42l2 p42l3 p42l4 p42l6 =>
    zgI 7 h0 19 fun g45 =>
    zif (g45 < p42l6) (
      j107 p42l2 p42l3 p42l4) (
      zif (p42l2 ≤ 0) (
        j107 p42l2 p42l3 p42l4) (
        zgR 7 h0 20 fun g56 =>
        f_X9_leastAt (p42l2 - (1 : Int32)) p42l6 fun r64 =>
        zaL 51 g56 r64 fun g67 =>
        zjn (fun (p99s0 : Int64) =>
            r42 p42l2 p42l3 p99s0 (p42l6 + (1 : Int32))) fun j99 =>
        zif ((lg_cmp g67 (1000000000000000 : Int64)) = 0) (
          j99 p42l4) (
          zat 7 h0 <| f_X9_errorOf h0 p42l3 p42l6 fun r90 =>
          j99 (if (r90 + g67) < p42l4 then (r90 + g67) else p42l4))))
def f_X9_layLeast_L12 (h0 : Nat) (j125 : Int32 → ZM → Prop) : Int32 → Int32 → ZM → Prop :=
  zw2 fun r12 p12l2 p12l3 =>
    zif (p12l3 < 0) (
      j125 p12l2) (
      zjn (fun (p35s0 : Int64) =>
          zjn (fun (p107l2 : Int32) (p107l3 : Int32) (p107l4 : Int64) =>
              zgR 7 h0 20 fun g108 =>
              f_X9_leastAt p107l2 p107l3 fun r113 =>
              zbL 51 g108 r113 p107l4 <|
              r12 p107l2 (p107l3 + (-1 : Int32))) fun j107 =>
          f_X9_layLeast_L42 h0 j107 p12l2 p12l3 p35s0 (p12l3 + (1 : Int32))) fun j35 =>
      zjn (
          j35 (1000000000000000 : Int64)) fun j32 =>
      zif (p12l2 = 0) (
        zgI 7 h0 19 fun g22 =>
        zif (p12l3 = g22) (
          j35 (0 : Int64)) (
          j32)) (
        j32))
def f_X9_layLeast_L2 (h0 : Nat) (x1 : Int32) (k : ZM → Prop) : Int32 → ZM → Prop :=
  zw1 fun r2 p2l2 =>
    zif (x1 < p2l2) (
      k) (
      zgI 7 h0 19 fun g8 =>
      zjn (fun (p125l2 : Int32) =>
          r2 (p125l2 + (1 : Int32))) fun j125 =>
      f_X9_layLeast_L12 h0 j125 p2l2 g8)
def f_X9_layLeast (h0 : Nat) (x1 : Int32) (k : ZM → Prop) : ZM → Prop :=
  f_X9_layLeast_L2 h0 x1 k (0 : Int32)
def f_X9_layBorders_L33 (h0 : Nat) (x1 : Int32) (g26 : Int32) (j98 : Int32 → Int32 → ZM → Prop) : Int32 → Int32 → ZM → Prop :=
  zw2 fun r33 p33l2 p33l4 =>
    zgR 7 h0 20 fun g34 =>
    f_X9_leastAt (x1 - p33l2) p33l4 fun r42 =>
    zaL 51 g34 r42 fun g45 =>
    zjn (
        r33 p33l2 (p33l4 + (1 : Int32))) fun j92 =>
    zif ((lg_cmp g45 (1000000000000000 : Int64)) = 0) (
      j92) (
      zat 7 h0 <| f_X9_errorOf h0 g26 p33l4 fun r57 =>
      zgR 7 h0 20 fun g61 =>
      f_X9_leastAt (x1 - p33l2) p33l4 fun r69 =>
      zaL 51 g61 r69 fun g72 =>
      zgR 7 h0 20 fun g75 =>
      f_X9_leastAt ((x1 - p33l2) + (1 : Int32)) g26 fun r84 =>
      zaL 51 g75 r84 fun g87 =>
      zif ((lg_cmp (r57 + g72) g87) = 0) (
        j98 p33l2 p33l4) (
        j92))
def f_X9_layBorders_L14 (h0 : Nat) (x1 : Int32) (j112 : ZM → Prop) : Int32 → ZM → Prop :=
  zw1 fun r14 p14l2 =>
    zif (x1 ≤ p14l2) (
      j112) (
      zgR 7 h0 21 fun g20 =>
      zaI 50 g20 (p14l2 - (1 : Int32)) fun g26 =>
      zjn (fun (p98l2 : Int32) (p98l4 : Int32) =>
          zgR 7 h0 21 fun g99 =>
          zbI 50 g99 p98l2 p98l4 <|
          r14 (p98l2 + (1 : Int32))) fun j98 =>
      f_X9_layBorders_L33 h0 x1 g26 j98 p14l2 (g26 + (1 : Int32)))
def f_X9_layBorders (h0 : Nat) (x1 : Int32) (k : ZM → Prop) : ZM → Prop :=
  zat 7 h0 <| f_X9_layLeast h0 x1 <|
  zgR 7 h0 21 fun g6 =>
  zbI 50 g6 (0 : Int32) (0 : Int32) <|
  zjn (
      zgR 7 h0 21 fun g113 =>
      zgI 7 h0 19 fun g118 =>
      zbI 50 g113 x1 g118 <|
      k) fun j112 =>
  f_X9_layBorders_L14 h0 x1 j112 (1 : Int32)
def f_X9_column (x0 : Int32) (x1 : Int32) (k : Int32 → ZM → Prop) : ZM → Prop :=
  k ((((357 : Int32) * x0) + (289 : Int32)) + ((34 : Int32) * x1))
def f_X9_drift (x0 : Int32) (x1 : Int32) (k : Int32 → ZM → Prop) : ZM → Prop :=
  f_X9_column x0 x1 fun r2 =>
  k ((r2 + (34 : Int32)) - (1 : Int32))
def f_X9_put (h0 : Nat) (x1 : Int32) (x2 : Int32) (x3 : Int32) (x4 : Int32) (x5 : Int32) (k : ZM → Prop) : ZM → Prop :=
  zgR 7 h0 16 fun g1 =>
  f_X9_column x1 x2 fun r6 =>
  zbI 50 g1 (((r6 + (1 : Int32)) + ((4 : Int32) * x3)) + x4) x5 <|
  k
def f_X9_buildNow_L73 (h0 : Nat) (j119 : Int32 → Int32 → Int32 → ZM → Prop) : Int32 → Int32 → Int32 → Int32 → ZM → Prop :=
  zw4 fun r73 p73l4 p73l5 p73l6 p73l7 =>
    zgR 7 h0 21 fun g76 =>
    zaI 50 g76 (p73l4 + (1 : Int32)) fun g83 =>
    zif (g83 ≤ p73l7) (
      j119 p73l4 p73l5 p73l6) (
      zgR 7 h0 18 fun g90 =>
      zaI 50 g90 p73l7 fun g95 =>
      zgR 7 h0 18 fun g102 =>
      zaI 50 g102 p73l7 fun g107 =>
      r73 p73l4 (p73l5 + g95) (if p73l6 < g107 then g107 else p73l6) (p73l7 + (1 : Int32)))
def f_X9_buildNow_L52 (h0 : Nat) (x1 : Int32) (x2 : Int32) (k : ZM → Prop) (g11 : Int32) (g17 : Int32) : Int32 → ZM → Prop :=
  zw1 fun r52 p52l4 =>
    zif ((if g17 < g11 then g17 else g11) ≤ p52l4) (
      k) (
      zgR 7 h0 21 fun g65 =>
      zaI 50 g65 p52l4 fun g70 =>
      zjn (fun (p119l4 : Int32) (p119l5 : Int32) (p119l6 : Int32) =>
          zgR 7 h0 21 fun g126 =>
          zaI 50 g126 p119l4 fun g131 =>
          zat 7 h0 <| f_X9_put h0 x1 x2 p119l4 (0 : Int32) g131 <|
          zgR 7 h0 21 fun g142 =>
          zaI 50 g142 (p119l4 + (1 : Int32)) fun g149 =>
          zat 7 h0 <| f_X9_put h0 x1 x2 p119l4 (1 : Int32) (g149 - (1 : Int32)) <|
          zat 7 h0 <| f_X9_put h0 x1 x2 p119l4 (2 : Int32) p119l5 <|
          zat 7 h0 <| f_X9_put h0 x1 x2 p119l4 (3 : Int32) p119l6 <|
          r52 (p119l4 + (1 : Int32))) fun j119 =>
      f_X9_buildNow_L73 h0 j119 p52l4 (0 : Int32) (0 : Int32) g70)
def f_X9_buildNow (h0 : Nat) (x1 : Int32) (x2 : Int32) (k : ZM → Prop) : ZM → Prop :=
  zat 7 h0 <| f_X9_layCounts h0 x1 x2 <|
  zgR 7 h0 10 fun g7 =>
  zaI 50 g7 (0 : Int32) fun g11 =>
  zgR 7 h0 11 fun g13 =>
  zaI 50 g13 x1 fun g17 =>
  zat 7 h0 <| f_X9_layBorders h0 (if g17 < g11 then g17 else g11) <|
  zgR 7 h0 16 fun g28 =>
  f_X9_column x1 x2 fun r33 =>
  zbI 50 g28 r33 (if g17 < g11 then g17 else g11) <|
  zgR 7 h0 16 fun g39 =>
  f_X9_drift x1 x2 fun r44 =>
  zbI 50 g39 r44 (0 : Int32) <|
  f_X9_buildNow_L52 h0 x1 x2 k g11 g17 (0 : Int32)
def f_X9_takeBook_L166 (h0 : Nat) (j192 : ZM → Prop) : Int32 → ZM → Prop :=
  zw1 fun r166 p166l1 =>
    zgI 7 h0 12 fun g168 =>
    zif (g168 ≤ p166l1) (
      j192) (
      zat 7 h0 <| f_X9_buildNow h0 p166l1 (0 : Int32) <|
      zat 7 h0 <| f_X9_buildNow h0 p166l1 (1 : Int32) <|
      r166 (p166l1 + (1 : Int32)))
def f_X9_takeBook_L99 (h0 : Nat) (j164 : ZM → Prop) : Int32 → ZM → Prop :=
  zw1 fun r99 p99l1 =>
    zgI 7 h0 9 fun g101 =>
    zif (g101 ≤ p99l1) (
      j164) (
      zgR 7 h0 16 fun g108 =>
      zgR 7 h0 7 fun g112 =>
      zaI 50 g112 (((4 : Int32) * p99l1) + (0 : Int32)) fun g120 =>
      zgR 7 h0 7 fun g122 =>
      zaI 50 g122 (((4 : Int32) * p99l1) + (1 : Int32)) fun g130 =>
      zgR 7 h0 7 fun g132 =>
      zaI 50 g132 (((4 : Int32) * p99l1) + (2 : Int32)) fun g140 =>
      f_X9_place g120 g130 g140 fun r141 =>
      zaI 50 g108 r141 fun g145 =>
      zgR 7 h0 7 fun g147 =>
      zaI 50 g147 (((4 : Int32) * p99l1) + (3 : Int32)) fun g155 =>
      zbI 50 g108 r141 (g145 + g155) <|
      r99 (p99l1 + (1 : Int32)))
def f_X9_takeBook_L71 (h0 : Nat) (j97 : ZM → Prop) : Int32 → ZM → Prop :=
  zw1 fun r71 p71l1 =>
    zgI 7 h0 12 fun g73 =>
    zif (g73 ≤ p71l1) (
      j97) (
      zgR 7 h0 11 fun g80 =>
      zgR 7 h0 6 fun g85 =>
      zaI 50 g85 p71l1 fun g89 =>
      zbI 50 g80 p71l1 g89 <|
      r71 (p71l1 + (1 : Int32)))
def f_X9_takeBook_L35 (h0 : Nat) (j55 : ZM → Prop) : Int32 → ZM → Prop :=
  zw1 fun r35 p35l1 =>
    zif ((1253 : Int32) ≤ p35l1) (
      j55) (
      zgR 7 h0 16 fun g43 =>
      zbI 50 g43 p35l1 (0 : Int32) <|
      r35 (p35l1 + (1 : Int32)))
def f_X9_takeBook_L10 (h0 : Nat) (j33 : ZM → Prop) : Int32 → ZM → Prop :=
  zw1 fun r10 p10l1 =>
    zif ((3 : Int32) ≤ p10l1) (
      j33) (
      zgR 7 h0 10 fun g16 =>
      zgR 7 h0 5 fun g21 =>
      zaI 50 g21 p10l1 fun g25 =>
      zbI 50 g16 p10l1 g25 <|
      r10 (p10l1 + (1 : Int32)))
def f_X9_takeBook (h0 : Nat) (k : Int32 → ZM → Prop) : ZM → Prop :=
  zgI 7 h0 8 fun g2 =>
  zpI 7 h0 12 g2 <|
  zjn (
      zjn (
          zgR 7 h0 16 fun g56 =>
          zgR 7 h0 10 fun g63 =>
          zaI 50 g63 (2 : Int32) fun g67 =>
          zbI 50 g56 (1071 : Int32) g67 <|
          zjn (
              zjn (
                  zjn (
                      zpI 7 h0 23 (0 : Int32) <|
                      zpZ 7 h0 32 (0 : Int32) <|
                      zgI 7 h0 12 fun g203 =>
                      k g203) fun j192 =>
                  f_X9_takeBook_L166 h0 j192 (0 : Int32)) fun j164 =>
              f_X9_takeBook_L99 h0 j164 (0 : Int32)) fun j97 =>
          f_X9_takeBook_L71 h0 j97 (0 : Int32)) fun j55 =>
      f_X9_takeBook_L35 h0 j55 (0 : Int32)) fun j33 =>
  f_X9_takeBook_L10 h0 j33 (0 : Int32)
def f_X9_text (h0 : Nat) (x1 : Int32) (k : Int32 → ZM → Prop) : ZM → Prop :=
  zjn (
      zjn (
          k (-1 : Int32)) fun j69 =>
      zif (x1 = (1 : Int32)) (
        zgI 7 h0 15 fun g28 =>
        zif ((4 : Int32) ≤ g28) (
          j69) (
          zgI 7 h0 15 fun g37 =>
          zat 7 h0 <| f_X9_readWhere h0 g37 fun r40 =>
          zif (r40 = (-1 : Int32)) (
            zpI 7 h0 2 (0 : Int32) <|
            zgI 7 h0 15 fun g54 =>
            zpI 7 h0 15 (g54 + (1 : Int32)) <|
            zgI 7 h0 15 fun g63 =>
            k (g63 - (1 : Int32))) (
            j69))) (
        j69)) fun j22 =>
  zif (x1 = 0) (
    zat 7 h0 <| f_X9_readBook h0 fun r5 =>
    zif (r5 = (-1 : Int32)) (
      zpI 7 h0 2 (0 : Int32) <|
      zat 7 h0 <| f_X9_takeBook h0 fun r18 =>
      k r18) (
      j22)) (
    j22)
def f_X9_isBook (h0 : Nat) (k : Int32 → ZM → Prop) : ZM → Prop :=
  zgI 7 h0 12 fun g1 =>
  zjn (fun (p12s0 : Int32) =>
      zrz p12s0 k) fun j12 =>
  zif (g1 ≤ 0) (
    j12 (0 : Int32)) (
    j12 (1 : Int32))
def f_X9_rule (h0 : Nat) (x1 : Int32) (k : Int32 → ZM → Prop) : ZM → Prop :=
  zat 7 h0 <| f_X9_isBook h0 fun r1 =>
  zjn (fun (p45s0 : Int32) =>
      k p45s0) fun j45 =>
  zjn (
      j45 (-1 : Int32)) fun j19 =>
  zif (r1 = 0) (
    j19) (
    f_X9_in x1.toInt64 (0 : Int64) (2 : Int64) fun r13 =>
    zif (r13 = 0) (
      j19) (
      zif (x1 = (2 : Int32)) (
        zgR 7 h0 16 fun g29 =>
        zaI 50 g29 (1071 : Int32) fun g35 =>
        j45 g35) (
        zgR 7 h0 10 fun g40 =>
        zaI 50 g40 x1 fun g44 =>
        j45 g44)))
def f_X9_isTable (h0 : Nat) (x1 : Int32) (k : Int32 → ZM → Prop) : ZM → Prop :=
  zgI 7 h0 12 fun g4 =>
  f_X9_in x1.toInt64 (0 : Int64) ((g4 - (1 : Int32)).toInt64) fun r10 =>
  zrz r10 k
def f_X9_rowsOf_L4 (h0 : Nat) (x1 : Int32) (k : Int32 → ZM → Prop) : Int32 → Int32 → ZM → Prop :=
  zw2 fun r4 p4l2 p4l3 =>
    zif ((289 : Int32) ≤ p4l3) (
      k p4l2) (
      zgR 7 h0 16 fun g13 =>
      zaI 50 g13 (((357 : Int32) * x1) + p4l3) fun g23 =>
      r4 (p4l2 + g23) (p4l3 + (1 : Int32)))
def f_X9_rowsOf (h0 : Nat) (x1 : Int32) (k : Int32 → ZM → Prop) : ZM → Prop :=
  f_X9_rowsOf_L4 h0 x1 k (0 : Int32) (0 : Int32)
def f_X9_table (h0 : Nat) (x1 : Int32) (x2 : Int32) (k : Int32 → ZM → Prop) : ZM → Prop :=
  zat 7 h0 <| f_X9_isTable h0 x1 fun r3 =>
  zjn (fun (p26s1 : Int32) =>
      zpI 7 h0 0 p26s1 <|
      zgI 7 h0 0 fun g30 =>
      zif (g30 = (1 : Int32)) (
        k (0 : Int32)) (
        zjn (fun (p74s0 : Int32) =>
            k p74s0) fun j74 =>
        zif (x2 = 0) (
          zgR 7 h0 11 fun g44 =>
          zaI 50 g44 x1 fun g48 =>
          j74 g48) (
          zif (x2 = (1 : Int32)) (
            zat 7 h0 <| f_X9_rowsOf h0 x1 fun r59 =>
            j74 r59) (
            zat 7 h0 <| f_X9_countAt h0 x1 (x2 - (2 : Int32)) (-1 : Int32) fun r71 =>
            j74 r71)))) fun j26 =>
  zjn (
      j26 (1 : Int32)) fun j25 =>
  zif (r3 = 0) (
    j25) (
    f_X9_in x2.toInt64 (0 : Int64) (3 : Int64) fun r15 =>
    zif (r15 = 0) (
      j25) (
      j26 (0 : Int32)))
def f_X9_isValue (h0 : Nat) (x1 : Int32) (x2 : Int32) (k : Int32 → ZM → Prop) : ZM → Prop :=
  zgR 7 h0 11 fun g6 =>
  zaI 50 g6 x1 fun g10 =>
  f_X9_in x2.toInt64 (-1 : Int64) ((g10 - (1 : Int32)).toInt64) fun r14 =>
  zrz r14 k
def f_X9_rows (h0 : Nat) (x1 : Int32) (x2 : Int32) (x3 : Int32) (k : Int32 → ZM → Prop) : ZM → Prop :=
  zat 7 h0 <| f_X9_isTable h0 x1 fun r2 =>
  zjn (fun (p41s0 : Int32) =>
      k p41s0) fun j41 =>
  zjn (
      j41 (-1 : Int32)) fun j40 =>
  zif (r2 = 0) (
    j40) (
    zat 7 h0 <| f_X9_isValue h0 x1 x2 fun r11 =>
    zif (r11 = 0) (
      j40) (
      zat 7 h0 <| f_X9_isValue h0 x1 x3 fun r20 =>
      zif (r20 = 0) (
        j40) (
        zgR 7 h0 16 fun g27 =>
        f_X9_place x1 x2 x3 fun r33 =>
        zaI 50 g27 r33 fun g36 =>
        j41 g36)))
def f_X9_isColumn (h0 : Nat) (x1 : Int32) (x2 : Int32) (k : Int32 → ZM → Prop) : ZM → Prop :=
  zat 7 h0 <| f_X9_isTable h0 x1 fun r2 =>
  zjn (fun (p23s0 : Int32) =>
      zrz p23s0 k) fun j23 =>
  zjn (
      j23 (0 : Int32)) fun j22 =>
  zif (r2 = 0) (
    j22) (
    f_X9_in x2.toInt64 (0 : Int64) (1 : Int64) fun r12 =>
    zif (r12 = 0) (
      j22) (
      j23 (1 : Int32)))
def f_X9_countOf (h0 : Nat) (x1 : Int32) (x2 : Int32) (x3 : Int32) (k : Int32 → ZM → Prop) : ZM → Prop :=
  zat 7 h0 <| f_X9_isColumn h0 x1 x2 fun r3 =>
  zjn (fun (p38s0 : Int32) =>
      k p38s0) fun j38 =>
  zjn (
      j38 (-1 : Int32)) fun j37 =>
  zif (r3 = 0) (
    j37) (
    zgR 7 h0 11 fun g13 =>
    zaI 50 g13 x1 fun g17 =>
    f_X9_in x3.toInt64 (0 : Int64) ((g17 - (1 : Int32)).toInt64) fun r21 =>
    zif (r21 = 0) (
      j37) (
      zat 7 h0 <| f_X9_countAt h0 x1 x2 x3 fun r31 =>
      j38 r31))
def f_X9_bucketMany (h0 : Nat) (x1 : Int32) (x2 : Int32) (k : Int32 → ZM → Prop) : ZM → Prop :=
  zgR 7 h0 16 fun g1 =>
  f_X9_column x1 x2 fun r6 =>
  zaI 50 g1 r6 fun g9 =>
  k g9
def f_X9_of (h0 : Nat) (x1 : Int32) (x2 : Int32) (x3 : Int32) (x4 : Int32) (k : Int32 → ZM → Prop) : ZM → Prop :=
  zgR 7 h0 16 fun g1 =>
  f_X9_column x1 x2 fun r6 =>
  zaI 50 g1 (((r6 + (1 : Int32)) + ((4 : Int32) * x3)) + x4) fun g18 =>
  k g18
def f_X9_bucket (h0 : Nat) (x1 : Int32) (x2 : Int32) (x3 : Int32) (x4 : Int32) (k : Int32 → ZM → Prop) : ZM → Prop :=
  zat 7 h0 <| f_X9_isColumn h0 x1 x2 fun r3 =>
  zjn (fun (p54s0 : Int32) =>
      k p54s0) fun j54 =>
  zjn (
      j54 (-1000000 : Int32)) fun j52 =>
  zif (r3 = 0) (
    j52) (
    zat 7 h0 <| f_X9_bucketMany h0 x1 x2 fun r15 =>
    f_X9_in x3.toInt64 (0 : Int64) ((r15 - (1 : Int32)).toInt64) fun r21 =>
    zif (r21 = 0) (
      j52) (
      f_X9_in x4.toInt64 (0 : Int64) (3 : Int64) fun r34 =>
      zif (r34 = 0) (
        j52) (
        zat 7 h0 <| f_X9_of h0 x1 x2 x3 x4 fun r46 =>
        j54 r46)))
def f_X9_worst_L11 (h0 : Nat) (x1 : Int32) (x2 : Int32) (k : Int32 → ZM → Prop) : Int32 → Int32 → ZM → Prop :=
  zw2 fun r11 p11l3 p11l4 =>
    zat 7 h0 <| f_X9_bucketMany h0 x1 x2 fun r16 =>
    zif (r16 ≤ p11l4) (
      k p11l3) (
      zat 7 h0 <| f_X9_of h0 x1 x2 p11l4 (0 : Int32) fun r29 =>
      zat 7 h0 <| f_X9_of h0 x1 x2 p11l4 (1 : Int32) fun r38 =>
      zat 7 h0 <| f_X9_errorOf h0 r29 (r38 + (1 : Int32)) fun r43 =>
      zat 7 h0 <| f_X9_of h0 x1 x2 p11l3 (0 : Int32) fun r52 =>
      zat 7 h0 <| f_X9_of h0 x1 x2 p11l3 (1 : Int32) fun r60 =>
      zat 7 h0 <| f_X9_errorOf h0 r52 (r60 + (1 : Int32)) fun r65 =>
      zjn (fun (p78s0 : Int32) =>
          r11 p78s0 (p11l4 + (1 : Int32))) fun j78 =>
      zif ((lg_cmp r43 r65) ≤ 0) (
        j78 p11l3) (
        j78 p11l4))
def f_X9_worst (h0 : Nat) (x1 : Int32) (x2 : Int32) (k : Int32 → ZM → Prop) : ZM → Prop :=
  zat 7 h0 <| f_X9_layCounts h0 x1 x2 <|
  f_X9_worst_L11 h0 x1 x2 k (0 : Int32) (1 : Int32)
def f_X9_column_2 (h0 : Nat) (x1 : Int32) (x2 : Int32) (x3 : Int32) (k : Int32 → ZM → Prop) : ZM → Prop :=
  zat 7 h0 <| f_X9_isColumn h0 x1 x2 fun r3 =>
  zjn (
      k (-1 : Int32)) fun j21 =>
  zif (r3 = 0) (
    j21) (
    f_X9_in x3.toInt64 (0 : Int64) (3 : Int64) fun r15 =>
    zif (r15 = 0) (
      j21) (
      zsw x3 0 [
        zat 7 h0 <| f_X9_bucketMany h0 x1 x2 fun r55 =>
        k r55,
        zgR 7 h0 16 fun g60 =>
        f_X9_drift x1 x2 fun r65 =>
        zaI 50 g60 r65 fun g68 =>
        k g68,
        zat 7 h0 <| f_X9_worst h0 x1 x2 fun r73 =>
        k r73] (
        zgR 7 h0 10 fun g78 =>
        zaI 50 g78 (1 : Int32) fun g82 =>
        zgR 7 h0 16 fun g84 =>
        f_X9_drift x1 x2 fun r89 =>
        zaI 50 g84 r89 fun g92 =>
        k (g82 - g92))))
def f_X9_isBuilding (h0 : Nat) (x1 : Int32) (x2 : Int32) (x3 : Int32) (k : Int32 → ZM → Prop) : ZM → Prop :=
  zat 7 h0 <| f_X9_isColumn h0 x1 x2 fun r3 =>
  zjn (fun (p30s0 : Int32) =>
      zrz p30s0 k) fun j30 =>
  zjn (
      j30 (0 : Int32)) fun j29 =>
  zif (r3 = 0) (
    j29) (
    zgR 7 h0 11 fun g13 =>
    zaI 50 g13 x1 fun g17 =>
    f_X9_in x3.toInt64 (1 : Int64) g17.toInt64 fun r19 =>
    zif (r19 = 0) (
      j29) (
      j30 (1 : Int32)))
def f_X9_error (h0 : Nat) (x1 : Int32) (x2 : Int32) (x3 : Int32) (k : Int64 → ZM → Prop) : ZM → Prop :=
  zat 7 h0 <| f_X9_isBuilding h0 x1 x2 x3 fun r4 =>
  zif (r4 = 0) (
    k (-1 : Int64)) (
    zat 7 h0 <| f_X9_layCounts h0 x1 x2 <|
    zat 7 h0 <| f_X9_layLeast h0 x3 <|
    zgR 7 h0 20 fun g26 =>
    f_X9_leastAt x3 (0 : Int32) fun r31 =>
    zaL 51 g26 r31 fun g34 =>
    k g34)
def f_X9_border (h0 : Nat) (x1 : Int32) (x2 : Int32) (x3 : Int32) (x4 : Int32) (k : Int32 → ZM → Prop) : ZM → Prop :=
  zat 7 h0 <| f_X9_isBuilding h0 x1 x2 x3 fun r4 =>
  zjn (
      k (-1 : Int32)) fun j24 =>
  zif (r4 = 0) (
    j24) (
    f_X9_in x4.toInt64 (0 : Int64) ((x3 - (1 : Int32)).toInt64) fun r18 =>
    zif (r18 = 0) (
      j24) (
      zat 7 h0 <| f_X9_layCounts h0 x1 x2 <|
      zat 7 h0 <| f_X9_layBorders h0 x3 <|
      zgR 7 h0 21 fun g38 =>
      zaI 50 g38 x4 fun g43 =>
      k g43))
def f_X9_triedFrom_L23 (h0 : Nat) (x1 : Int32) (x2 : Int32) (x3 : Int32) (j102 : Int32 → ZM → Prop) : Int32 → Int64 → Int32 → Int32 → ZM → Prop :=
  zw4 fun r23 p23l4 p23l5 p23l7 p23l8 =>
    zgI 7 h0 19 fun g26 =>
    zif (((g26 - x2) + (1 : Int32)) < p23l8) (
      j102 p23l4) (
      zif (p23l7 = 0) (
        j102 p23l4) (
        zat 7 h0 <| f_X9_errorOf h0 x1 p23l8 fun r50 =>
        zgR 7 h0 20 fun g54 =>
        f_X9_leastAt (x2 - (1 : Int32)) p23l8 fun r62 =>
        zaL 51 g54 r62 fun g65 =>
        zjn (fun (p94s0 : Int32) =>
            r23 (p23l4 + (1 : Int32)) (if (r50 + g65) < p23l5 then (r50 + g65) else p23l5) p94s0 (p23l8 + (1 : Int32))) fun j94 =>
        zjn (
            j94 (1 : Int32)) fun j89 =>
        zif (x3 = 0) (
          j89) (
          zat 7 h0 <| f_X9_errorOf h0 x1 p23l8 fun r80 =>
          zif (0 ≤ (lg_cmp r80 (if (r50 + g65) < p23l5 then (r50 + g65) else p23l5))) (
            j94 (0 : Int32)) (
            j89))))
def f_X9_triedFrom (h0 : Nat) (x1 : Int32) (x2 : Int32) (x3 : Int32) (k : Int32 → ZM → Prop) : ZM → Prop :=
  zif (x2 = (1 : Int32)) (
    k (1 : Int32)) (
    zjn (fun (p102l4 : Int32) =>
        k p102l4) fun j102 =>
    f_X9_triedFrom_L23 h0 x1 x2 x3 j102 (0 : Int32) (1000000000000000 : Int64) (1 : Int32) (x1 + (1 : Int32)))
def f_X9_tried_L49 (h0 : Nat) (x4 : Int32) (j90 : Int32 → Int32 → ZM → Prop) : Int32 → Int32 → Int32 → ZM → Prop :=
  zw3 fun r49 p49l5 p49l6 p49l7 =>
    zgI 7 h0 19 fun g52 =>
    zif ((g52 - p49l6) < p49l7) (
      j90 p49l5 p49l6) (
      zjn (fun (p78s4 : Int32) =>
          zat 7 h0 <| f_X9_triedFrom h0 p49l7 p49l6 p78s4 fun r78 =>
          r49 (p49l5 + r78) p49l6 (p49l7 + (1 : Int32))) fun j78 =>
      zif (x4 = 0) (
        j78 (1 : Int32)) (
        j78 (0 : Int32)))
def f_X9_tried_L40 (h0 : Nat) (x3 : Int32) (x4 : Int32) (k : Int32 → ZM → Prop) : Int32 → Int32 → ZM → Prop :=
  zw2 fun r40 p40l5 p40l6 =>
    zif (x3 < p40l6) (
      k p40l5) (
      zjn (fun (p90l5 : Int32) (p90l6 : Int32) =>
          r40 p90l5 (p90l6 + (1 : Int32))) fun j90 =>
      f_X9_tried_L49 h0 x4 j90 p40l5 p40l6 (0 : Int32))
def f_X9_tried (h0 : Nat) (x1 : Int32) (x2 : Int32) (x3 : Int32) (x4 : Int32) (k : Int32 → ZM → Prop) : ZM → Prop :=
  zat 7 h0 <| f_X9_isBuilding h0 x1 x2 x3 fun r4 =>
  zjn (
      k (-1 : Int32)) fun j21 =>
  zif (r4 = 0) (
    j21) (
    f_X9_in x4.toInt64 (0 : Int64) (1 : Int64) fun r15 =>
    zif (r15 = 0) (
      j21) (
      zat 7 h0 <| f_X9_layCounts h0 x1 x2 <|
      zat 7 h0 <| f_X9_layLeast h0 x3 <|
      f_X9_tried_L40 h0 x3 x4 k (0 : Int32) (1 : Int32)))
def f_X9_fewest_L34 (h0 : Nat) (x3 : Int64) (k : Int32 → ZM → Prop) : Int32 → ZM → Prop :=
  zw1 fun r34 p34l5 =>
    zgR 7 h0 20 fun g35 =>
    f_X9_leastAt p34l5 (0 : Int32) fun r41 =>
    zaL 51 g35 r41 fun g44 =>
    zif ((lg_cmp g44 x3) ≤ 0) (
      k p34l5) (
      r34 (p34l5 + (1 : Int32)))
def f_X9_fewest (h0 : Nat) (x1 : Int32) (x2 : Int32) (x3 : Int64) (k : Int32 → ZM → Prop) : ZM → Prop :=
  zat 7 h0 <| f_X9_isColumn h0 x1 x2 fun r3 =>
  zjn (
      k (-1 : Int32)) fun j15 =>
  zif (r3 = 0) (
    j15) (
    zif (0 ≤ (lg_cmp x3 (0 : Int64))) (
      zat 7 h0 <| f_X9_layCounts h0 x1 x2 <|
      zgI 7 h0 19 fun g25 =>
      zat 7 h0 <| f_X9_layLeast h0 g25 <|
      f_X9_fewest_L34 h0 x3 k (1 : Int32)) (
      j15))
def f_X9_areThere (h0 : Nat) (x1 : Int32) (x2 : Int32) (x3 : Int32) (k : Int32 → ZM → Prop) : ZM → Prop :=
  zat 7 h0 <| f_X9_isTable h0 x1 fun r2 =>
  zjn (fun (p31s0 : Int32) =>
      zrz p31s0 k) fun j31 =>
  zjn (
      j31 (0 : Int32)) fun j30 =>
  zif (r2 = 0) (
    j30) (
    zat 7 h0 <| f_X9_isValue h0 x1 x2 fun r11 =>
    zif (r11 = 0) (
      j30) (
      zat 7 h0 <| f_X9_isValue h0 x1 x3 fun r20 =>
      zif (r20 = 0) (
        j30) (
        j31 (1 : Int32))))
def f_X9_whyAdd (h0 : Nat) (x1 : Int32) (x2 : Int32) (x3 : Int32) (x4 : Int32) (k : Int32 → ZM → Prop) : ZM → Prop :=
  zat 7 h0 <| f_X9_areThere h0 x1 x2 x3 fun r4 =>
  zjn (fun (p50s0 : Int32) =>
      k p50s0) fun j50 =>
  zif (r4 = 0) (
    j50 (0 : Int32)) (
    f_X9_in x4.toInt64 (1 : Int64) (99 : Int64) fun r21 =>
    zif (r21 = 0) (
      j50 (1 : Int32)) (
      zat 7 h0 <| f_X9_rowsOf h0 x1 fun r33 =>
      zif ((r33 + x4) ≤ (999 : Int32)) (
        j50 (-1 : Int32)) (
        j50 (3 : Int32))))
def f_X9_keep_L53 (h0 : Nat) (j87 : ZM → Prop) : Int32 → ZM → Prop :=
  zw1 fun r53 p53l1 =>
    zif ((1253 : Int32) ≤ p53l1) (
      j87) (
      zgR 7 h0 22 fun g61 =>
      zgI 7 h0 23 fun g68 =>
      zgR 7 h0 16 fun g75 =>
      zaI 50 g75 p53l1 fun g79 =>
      zbI 50 g61 (((1253 : Int32) * g68) + p53l1) g79 <|
      r53 (p53l1 + (1 : Int32)))
def f_X9_keep_L13 (h0 : Nat) (j41 : ZM → Prop) : Int32 → ZM → Prop :=
  zw1 fun r13 p13l1 =>
    zif ((50120 : Int32) ≤ p13l1) (
      j41) (
      zgR 7 h0 22 fun g20 =>
      zgR 7 h0 22 fun g29 =>
      zaI 50 g29 p13l1 fun g33 =>
      zbI 50 g20 (p13l1 - (1253 : Int32)) g33 <|
      r13 (p13l1 + (1 : Int32)))
def f_X9_keep (h0 : Nat) (k : ZM → Prop) : ZM → Prop :=
  zgI 7 h0 23 fun g1 =>
  zjn (
      zjn (
          zgI 7 h0 23 fun g89 =>
          zpI 7 h0 23 (g89 + (1 : Int32)) <|
          k) fun j87 =>
      f_X9_keep_L53 h0 j87 (0 : Int32)) fun j51 =>
  zif (g1 = (40 : Int32)) (
    zjn (
        zgI 7 h0 23 fun g43 =>
        zpI 7 h0 23 (g43 - (1 : Int32)) <|
        j51) fun j41 =>
    f_X9_keep_L13 h0 j41 (1253 : Int32)) (
    j51)
def f_X9_isRefused_L37 (h0 : Nat) (j75 : ZM → Prop) : Int32 → ZM → Prop :=
  zw1 fun r37 p37l5 =>
    zif ((180 : Int32) ≤ p37l5) (
      j75) (
      zgR 7 h0 16 fun g46 =>
      zgR 7 h0 16 fun g58 =>
      zaI 50 g58 ((1073 : Int32) + p37l5) fun g67 =>
      zbI 50 g46 (((1073 : Int32) + p37l5) - (3 : Int32)) g67 <|
      r37 (p37l5 + (1 : Int32)))
def f_X9_isRefused (h0 : Nat) (x1 : Int32) (x2 : Int32) (x3 : Int32) (x4 : Int32) (k : Int32 → ZM → Prop) : ZM → Prop :=
  zif (x1 = (-1 : Int32)) (
    zat 7 h0 <| f_X9_keep h0 <|
    zgR 7 h0 16 fun g22 =>
    zaI 50 g22 (1072 : Int32) fun g28 =>
    zjn (
        zgR 7 h0 16 fun g92 =>
        zaI 50 g92 (1072 : Int32) fun g98 =>
        zgR 7 h0 16 fun g104 =>
        zbI 50 g104 ((1073 : Int32) + ((3 : Int32) * g98)) x2 <|
        zgR 7 h0 16 fun g112 =>
        zbI 50 g112 (((1073 : Int32) + ((3 : Int32) * g98)) + (1 : Int32)) x3 <|
        zgR 7 h0 16 fun g122 =>
        zbI 50 g122 (((1073 : Int32) + ((3 : Int32) * g98)) + (2 : Int32)) x4 <|
        zgR 7 h0 16 fun g133 =>
        zaI 50 g133 (1072 : Int32) fun g140 =>
        zbI 50 g133 (1072 : Int32) (g140 + (1 : Int32)) <|
        zrz (0 : Int32) k) fun j87 =>
    zif (g28 = (60 : Int32)) (
      zjn (
          zgR 7 h0 16 fun g76 =>
          zaI 50 g76 (1072 : Int32) fun g83 =>
          zbI 50 g76 (1072 : Int32) (g83 - (1 : Int32)) <|
          j87) fun j75 =>
      f_X9_isRefused_L37 h0 j75 (3 : Int32)) (
      j87)) (
    zgR 7 h0 17 fun g6 =>
    zaI 50 g6 x1 fun g11 =>
    zbI 50 g6 x1 (g11 + (1 : Int32)) <|
    zrz (1 : Int32) k)
def f_X9_bucketOf_L3 (h0 : Nat) (x1 : Int32) (x2 : Int32) (x3 : Int32) (k : Int32 → ZM → Prop) : Int32 → ZM → Prop :=
  zw1 fun r3 p3l4 =>
    zat 7 h0 <| f_X9_of h0 x1 x2 p3l4 (1 : Int32) fun r9 =>
    zif (x3 ≤ r9) (
      k p3l4) (
      r3 (p3l4 + (1 : Int32)))
def f_X9_bucketOf (h0 : Nat) (x1 : Int32) (x2 : Int32) (x3 : Int32) (k : Int32 → ZM → Prop) : ZM → Prop :=
  f_X9_bucketOf_L3 h0 x1 x2 x3 k (0 : Int32)
def f_X9_drifts (h0 : Nat) (x1 : Int32) (x2 : Int32) (x3 : Int32) (x4 : Int32) (k : ZM → Prop) : ZM → Prop :=
  zif (x3 = (-1 : Int32)) (
    k) (
    zat 7 h0 <| f_X9_bucketOf h0 x1 x2 x3 fun r10 =>
    zat 7 h0 <| f_X9_of h0 x1 x2 r10 (2 : Int32) fun r21 =>
    zat 7 h0 <| f_X9_put h0 x1 x2 r10 (2 : Int32) (r21 + x4) <|
    zat 7 h0 <| f_X9_of h0 x1 x2 r10 (3 : Int32) fun r54 =>
    znm (if (r54 + (if (0 : Int32) < x4 then x4 else (0 : Int32))) < (r21 + x4) then (r54 + (if (0 : Int32) < x4 then x4 else (0 : Int32))) else (r21 + x4)) fun v64 =>
    zat 7 h0 <| f_X9_put h0 x1 x2 r10 (3 : Int32) v64 <|
    zgR 7 h0 16 fun g71 =>
    f_X9_drift x1 x2 fun r76 =>
    zaI 50 g71 r76 fun g80 =>
    zjn (fun (p94s3 : Int32) =>
        zbI 50 g71 r76 (g80 + p94s3) <|
        k) fun j94 =>
    zif (0 ≤ x4) (
      j94 x4) (
      j94 (-x4)))
def f_X9_change_L37 (h0 : Nat) (x1 : Int32) (k : ZM → Prop) : Int32 → ZM → Prop :=
  zw1 fun r37 p37l5 =>
    zif ((2 : Int32) ≤ p37l5) (
      k) (
      zgR 7 h0 16 fun g44 =>
      f_X9_drift x1 p37l5 fun r50 =>
      zaI 50 g44 r50 fun g53 =>
      zgR 7 h0 10 fun g55 =>
      zaI 50 g55 (1 : Int32) fun g59 =>
      zjn (
          r37 (p37l5 + (1 : Int32))) fun j70 =>
      zif (g53 ≤ g59) (
        j70) (
        zat 7 h0 <| f_X9_buildNow h0 x1 p37l5 <|
        j70))
def f_X9_change (h0 : Nat) (x1 : Int32) (x2 : Int32) (x3 : Int32) (x4 : Int32) (k : ZM → Prop) : ZM → Prop :=
  zgR 7 h0 16 fun g1 =>
  f_X9_place x1 x2 x3 fun r7 =>
  zaI 50 g1 r7 fun g11 =>
  zbI 50 g1 r7 (g11 + x4) <|
  zat 7 h0 <| f_X9_drifts h0 x1 (0 : Int32) x2 x4 <|
  zat 7 h0 <| f_X9_drifts h0 x1 (1 : Int32) x3 x4 <|
  f_X9_change_L37 h0 x1 k (0 : Int32)
def f_X9_add (h0 : Nat) (x1 : Int32) (x2 : Int32) (x3 : Int32) (x4 : Int32) (k : Int32 → ZM → Prop) : ZM → Prop :=
  zat 7 h0 <| f_X9_whyAdd h0 x1 x2 x3 x4 fun r7 =>
  zat 7 h0 <| f_X9_isRefused h0 r7 (0 : Int32) x1 x4 fun r14 =>
  zif (r14 = 0) (
    zat 7 h0 <| f_X9_change h0 x1 x2 x3 x4 <|
    zat 7 h0 <| f_X9_rowsOf h0 x1 fun r33 =>
    k r33) (
    k (-1 : Int32))
def f_X9_whyDrop (h0 : Nat) (x1 : Int32) (x2 : Int32) (x3 : Int32) (x4 : Int32) (k : Int32 → ZM → Prop) : ZM → Prop :=
  zat 7 h0 <| f_X9_areThere h0 x1 x2 x3 fun r4 =>
  zjn (fun (p52s0 : Int32) =>
      k p52s0) fun j52 =>
  zif (r4 = 0) (
    j52 (0 : Int32)) (
    f_X9_in x4.toInt64 (1 : Int64) (99 : Int64) fun r21 =>
    zif (r21 = 0) (
      j52 (1 : Int32)) (
      zgR 7 h0 16 fun g32 =>
      f_X9_place x1 x2 x3 fun r38 =>
      zaI 50 g32 r38 fun g41 =>
      zif (x4 ≤ g41) (
        j52 (-1 : Int32)) (
        j52 (3 : Int32))))
def f_X9_drop (h0 : Nat) (x1 : Int32) (x2 : Int32) (x3 : Int32) (x4 : Int32) (k : Int32 → ZM → Prop) : ZM → Prop :=
  zat 7 h0 <| f_X9_whyDrop h0 x1 x2 x3 x4 fun r7 =>
  zat 7 h0 <| f_X9_isRefused h0 r7 (1 : Int32) x1 x4 fun r14 =>
  zif (r14 = 0) (
    zat 7 h0 <| f_X9_change h0 x1 x2 x3 (-x4) <|
    zat 7 h0 <| f_X9_rowsOf h0 x1 fun r34 =>
    k r34) (
    k (-1 : Int32))
def f_X9_move (h0 : Nat) (x1 : Int32) (x2 : Int32) (x3 : Int32) (x4 : Int32) (x5 : Int32) (k : Int32 → ZM → Prop) : ZM → Prop :=
  zat 7 h0 <| f_X9_areThere h0 x1 x2 x3 fun r4 =>
  zjn (fun (p27s0 : Int32) =>
      zjn (fun (p74s1 : Int32) =>
          zat 7 h0 <| f_X9_isRefused h0 p74s1 (2 : Int32) x1 (1 : Int32) fun r77 =>
          zif (r77 = 0) (
            zat 7 h0 <| f_X9_change h0 x1 x2 x3 (-1 : Int32) <|
            zat 7 h0 <| f_X9_change h0 x1 x4 x5 (1 : Int32) <|
            zgR 7 h0 16 fun g104 =>
            f_X9_place x1 x4 x5 fun r112 =>
            zaI 50 g104 r112 fun g115 =>
            k g115) (
            k (-1 : Int32))) fun j74 =>
      zif (p27s0 = 0) (
        j74 (0 : Int32)) (
        zjn (
            zgR 7 h0 16 fun g56 =>
            f_X9_place x1 x2 x3 fun r62 =>
            zaI 50 g56 r62 fun g65 =>
            zif (g65 = 0) (
              j74 (3 : Int32)) (
              j74 (-1 : Int32))) fun j55 =>
        zif (x2 = x4) (
          zif (x3 = x5) (
            j74 (2 : Int32)) (
            j55)) (
          j55))) fun j27 =>
  zjn (
      j27 (0 : Int32)) fun j26 =>
  zif (r4 = 0) (
    j26) (
    zat 7 h0 <| f_X9_areThere h0 x1 x4 x5 fun r16 =>
    zif (r16 = 0) (
      j26) (
      j27 (1 : Int32)))
def f_X9_whyBuild (h0 : Nat) (x1 : Int32) (x2 : Int32) (k : Int32 → ZM → Prop) : ZM → Prop :=
  zat 7 h0 <| f_X9_isColumn h0 x1 x2 fun r3 =>
  zjn (fun (p31s0 : Int32) =>
      k p31s0) fun j31 =>
  zif (r3 = 0) (
    j31 (0 : Int32)) (
    zgR 7 h0 16 fun g14 =>
    f_X9_drift x1 x2 fun r19 =>
    zaI 50 g14 r19 fun g22 =>
    zif (g22 = 0) (
      j31 (2 : Int32)) (
      j31 (-1 : Int32)))
def f_X9_build (h0 : Nat) (x1 : Int32) (x2 : Int32) (k : Int32 → ZM → Prop) : ZM → Prop :=
  zat 7 h0 <| f_X9_whyBuild h0 x1 x2 fun r4 =>
  zat 7 h0 <| f_X9_isRefused h0 r4 (3 : Int32) x1 x2 fun r10 =>
  zif (r10 = 0) (
    zat 7 h0 <| f_X9_buildNow h0 x1 x2 <|
    zat 7 h0 <| f_X9_bucketMany h0 x1 x2 fun r27 =>
    k r27) (
    k (-1 : Int32))
def f_X9_budget (h0 : Nat) (x1 : Int32) (k : Int32 → ZM → Prop) : ZM → Prop :=
  zat 7 h0 <| f_X9_isBook h0 fun r2 =>
  zjn (fun (p45s1 : Int32) =>
      zat 7 h0 <| f_X9_isRefused h0 p45s1 (4 : Int32) (-1 : Int32) x1 fun r48 =>
      zif (r48 = 0) (
        zgR 7 h0 16 fun g57 =>
        zaI 50 g57 (1071 : Int32) fun g63 =>
        zgR 7 h0 16 fun g66 =>
        zbI 50 g66 (1071 : Int32) x1 <|
        k g63) (
        k (-1 : Int32))) fun j45 =>
  zif (r2 = 0) (
    j45 (0 : Int32)) (
    f_X9_in x1.toInt64 (1 : Int64) (999 : Int64) fun r18 =>
    zif (r18 = 0) (
      j45 (1 : Int32)) (
      zgR 7 h0 16 fun g29 =>
      zaI 50 g29 (1071 : Int32) fun g35 =>
      zif (g35 = x1) (
        j45 (2 : Int32)) (
        j45 (-1 : Int32))))
def f_X9_draw (h0 : Nat) (x1 : Int32) (k : Int32 → ZM → Prop) : ZM → Prop :=
  zgL 7 h0 24 fun g2 =>
  zpL 7 h0 24 ((g2 * (6364136223846793005 : Int64)) + (1442695040888963407 : Int64)) <|
  zgL 7 h0 24 fun g17 =>
  znm ((g17.toUInt64 >>> ((33 : Int32).toInt64.toUInt64 &&& Int64.toUInt64 63)).toInt64) fun v22 =>
  zne x1.toInt64 0 <|
  k ((v22 - v22 / x1.toInt64 * x1.toInt64).toInt32)
def f_X9_drawValue (h0 : Nat) (x1 : Int32) (k : Int32 → ZM → Prop) : ZM → Prop :=
  zgR 7 h0 11 fun g2 =>
  zaI 50 g2 x1 fun g6 =>
  zat 7 h0 <| f_X9_draw h0 (g6 + (1 : Int32)) fun r9 =>
  zgR 7 h0 11 fun g15 =>
  zaI 50 g15 x1 fun g19 =>
  zjn (fun (p28s0 : Int32) =>
      k p28s0) fun j28 =>
  zif (r9 = g19) (
    j28 (-1 : Int32)) (
    j28 r9)
def f_X9_drawYear (h0 : Nat) (k : ZM → Prop) : ZM → Prop :=
  zat 7 h0 <| f_X9_draw h0 (4 : Int32) fun r2 =>
  zgI 7 h0 12 fun g8 =>
  zat 7 h0 <| f_X9_draw h0 g8 fun r11 =>
  zif (r2 = (3 : Int32)) (
    zat 7 h0 <| f_X9_draw h0 (2 : Int32) fun r22 =>
    zat 7 h0 <| f_X9_whyBuild h0 r11 r22 fun r29 =>
    zjn (
        k) fun j43 =>
    zif (r29 = (-1 : Int32)) (
      zat 7 h0 <| f_X9_build h0 r11 r22 fun r39 =>
      j43) (
      j43)) (
    zat 7 h0 <| f_X9_drawValue h0 r11 fun r46 =>
    zat 7 h0 <| f_X9_drawValue h0 r11 fun r52 =>
    zat 7 h0 <| f_X9_draw h0 (5 : Int32) fun r59 =>
    zjn (
        zjn (
            k) fun j126 =>
        zif (r2 = (2 : Int32)) (
          zat 7 h0 <| f_X9_whyDrop h0 r11 r46 r52 (r59 + (1 : Int32)) fun r108 =>
          zif (r108 = (-1 : Int32)) (
            zat 7 h0 <| f_X9_drop h0 r11 r46 r52 (r59 + (1 : Int32)) fun r122 =>
            j126) (
            j126)) (
          j126)) fun j96 =>
    zif ((2 : Int32) ≤ r2) (
      j96) (
      zat 7 h0 <| f_X9_whyAdd h0 r11 r46 r52 (r59 + (1 : Int32)) fun r78 =>
      zif (r78 = (-1 : Int32)) (
        zat 7 h0 <| f_X9_add h0 r11 r46 r52 (r59 + (1 : Int32)) fun r92 =>
        j96) (
        j96)))
def f_X9_rowsOfAll_L4 (h0 : Nat) (k : Int32 → ZM → Prop) : Int32 → Int32 → ZM → Prop :=
  zw2 fun r4 p4l1 p4l2 =>
    zgI 7 h0 12 fun g6 =>
    zif (g6 ≤ p4l2) (
      k p4l1) (
      zat 7 h0 <| f_X9_rowsOf h0 p4l2 fun r15 =>
      r4 (p4l1 + r15) (p4l2 + (1 : Int32)))
def f_X9_rowsOfAll (h0 : Nat) (k : Int32 → ZM → Prop) : ZM → Prop :=
  f_X9_rowsOfAll_L4 h0 k (0 : Int32) (0 : Int32)
def f_X9_years_L29 (h0 : Nat) (x1 : Int32) (j45 : ZM → Prop) : Int32 → ZM → Prop :=
  zw1 fun r29 p29l4 =>
    zif (x1 ≤ p29l4) (
      j45) (
      zat 7 h0 <| f_X9_drawYear h0 <|
      r29 (p29l4 + (1 : Int32)))
def f_X9_years (h0 : Nat) (x1 : Int32) (x2 : Int64) (k : Int32 → ZM → Prop) : ZM → Prop :=
  zat 7 h0 <| f_X9_isBook h0 fun r1 =>
  zjn (
      k (-1 : Int32)) fun j19 =>
  zif (r1 = 0) (
    j19) (
    f_X9_in x1.toInt64 (1 : Int64) (40 : Int64) fun r13 =>
    zif (r13 = 0) (
      j19) (
      zpL 7 h0 24 x2 <|
      zjn (
          zat 7 h0 <| f_X9_rowsOfAll h0 fun r46 =>
          k r46) fun j45 =>
      f_X9_years_L29 h0 x1 j45 (0 : Int32)))
def f_X9_status (h0 : Nat) (x1 : Int32) (k : Int32 → ZM → Prop) : ZM → Prop :=
  f_X9_in x1.toInt64 (0 : Int64) (4 : Int64) fun r6 =>
  zjn (fun (p22s0 : Int32) =>
      k p22s0) fun j22 =>
  zif (r6 = 0) (
    j22 (-1 : Int32)) (
    zgR 7 h0 17 fun g13 =>
    zaI 50 g13 x1 fun g17 =>
    j22 g17)
def f_X9_undo_L21 (h0 : Nat) (k : Int32 → ZM → Prop) : Int32 → ZM → Prop :=
  zw1 fun r21 p21l1 =>
    zif ((1253 : Int32) ≤ p21l1) (
      zgI 7 h0 23 fun g56 =>
      k g56) (
      zgR 7 h0 16 fun g29 =>
      zgR 7 h0 22 fun g34 =>
      zgI 7 h0 23 fun g41 =>
      zaI 50 g34 (((1253 : Int32) * g41) + p21l1) fun g47 =>
      zbI 50 g29 p21l1 g47 <|
      r21 (p21l1 + (1 : Int32)))
def f_X9_undo (h0 : Nat) (k : Int32 → ZM → Prop) : ZM → Prop :=
  zgI 7 h0 23 fun g1 =>
  zif (g1 = 0) (
    k (-1 : Int32)) (
    zgI 7 h0 23 fun g11 =>
    zpI 7 h0 23 (g11 - (1 : Int32)) <|
    f_X9_undo_L21 h0 k (0 : Int32))
def f_X9_log (h0 : Nat) (x1 : Int32) (x2 : Int32) (k : Int32 → ZM → Prop) : ZM → Prop :=
  zgR 7 h0 16 fun g4 =>
  zaI 50 g4 (1072 : Int32) fun g10 =>
  f_X9_in x1.toInt64 (0 : Int64) ((g10 - (1 : Int32)).toInt64) fun r14 =>
  zjn (fun (p62s0 : Int32) =>
      k p62s0) fun j62 =>
  zjn (
      j62 (-1000000 : Int32)) fun j60 =>
  zif (r14 = 0) (
    j60) (
    f_X9_in x2.toInt64 (0 : Int64) (2 : Int64) fun r26 =>
    zif (r26 = 0) (
      j60) (
      zgR 7 h0 16 fun g33 =>
      zgR 7 h0 16 fun g41 =>
      zaI 50 g41 (1072 : Int32) fun g47 =>
      zaI 50 g33 (((1073 : Int32) + ((3 : Int32) * ((g47 - (1 : Int32)) - x1))) + x2) fun g56 =>
      j62 g56))
def f_X9_trace (h0 : Nat) (x1 : Int32) (k : Int32 → ZM → Prop) : ZM → Prop :=
  zgI 7 h0 26 fun g4 =>
  f_X9_in x1.toInt64 (0 : Int64) ((g4 - (1 : Int32)).toInt64) fun r10 =>
  zjn (fun (p26s0 : Int32) =>
      k p26s0) fun j26 =>
  zif (r10 = 0) (
    j26 (-1 : Int32)) (
    zgR 7 h0 25 fun g17 =>
    zaI 50 g17 x1 fun g21 =>
    j26 g21)
def f_X9_isWhere (h0 : Nat) (x1 : Int32) (k : Int32 → ZM → Prop) : ZM → Prop :=
  zgI 7 h0 15 fun g4 =>
  f_X9_in x1.toInt64 (0 : Int64) ((g4 - (1 : Int32)).toInt64) fun r10 =>
  zrz r10 k
def f_X9_unitAt (h0 : Nat) (x1 : Int32) (x2 : Int32) (x3 : Int32) (k : Int32 → ZM → Prop) : ZM → Prop :=
  zgR 7 h0 13 fun g1 =>
  zaI 50 g1 (((4 : Int32) * (((6 : Int32) * x1) + x2)) + x3) fun g14 =>
  k g14
def f_X9_terms (h0 : Nat) (x1 : Int32) (k : Int32 → ZM → Prop) : ZM → Prop :=
  zgR 7 h0 14 fun g3 =>
  zaI 50 g3 x1 fun g7 =>
  zat 7 h0 <| f_X9_unitAt h0 x1 (g7 - (1 : Int32)) (0 : Int32) fun r11 =>
  k (r11 + (1 : Int32))
def f_X9_isUnitOf (h0 : Nat) (x1 : Int32) (x2 : Int32) (x3 : Int32) (k : Int32 → ZM → Prop) : ZM → Prop :=
  zat 7 h0 <| f_X9_unitAt h0 x1 x2 (3 : Int32) fun r4 =>
  zat 7 h0 <| f_X9_unitAt h0 x1 x2 (2 : Int32) fun r13 =>
  zsw r13 0 [
    zjn (fun (p60s0 : Int32) =>
        zrz p60s0 k) fun j60 =>
    zjn (
        j60 (0 : Int32)) fun j59 =>
    zif (x3 = (-1 : Int32)) (
      j59) (
      zif (x3 = r4) (
        j60 (1 : Int32)) (
        j59)),
    zjn (fun (p77s0 : Int32) =>
        zrz p77s0 k) fun j77 =>
    zjn (
        j77 (0 : Int32)) fun j76 =>
    zif (x3 = (-1 : Int32)) (
      j76) (
      zif (r4 ≤ x3) (
        j76) (
        j77 (1 : Int32))),
    zjn (fun (p94s0 : Int32) =>
        zrz p94s0 k) fun j94 =>
    zjn (
        j94 (0 : Int32)) fun j93 =>
    zif (x3 = (-1 : Int32)) (
      j93) (
      zif (x3 ≤ r4) (
        j93) (
        j94 (1 : Int32)))] (
    zjn (fun (p105s0 : Int32) =>
        zrz p105s0 k) fun j105 =>
    zif (x3 = (-1 : Int32)) (
      j105 (1 : Int32)) (
      j105 (0 : Int32)))
def f_X9_unitBy_L87 (h0 : Nat) (x1 : Int32) (x2 : Int32) (x3 : Int32) (r4 : Int32) (j129 : Int32 → Int32 → Int32 → ZM → Prop) : Int32 → Int32 → Int32 → Int32 → ZM → Prop :=
  zw4 fun r87 p87l6 p87l7 p87l9 p87l10 =>
    zat 7 h0 <| f_X9_of h0 x1 r4 p87l7 (1 : Int32) fun r96 =>
    zif (r96 < p87l10) (
      j129 p87l6 p87l7 p87l9) (
      zat 7 h0 <| f_X9_isUnitOf h0 x2 x3 p87l10 fun r109 =>
      zjn (fun (p120s1 : Int32) =>
          r87 p87l6 p87l7 (p87l9 + p120s1) (p87l10 + (1 : Int32))) fun j120 =>
      zif (r109 = 0) (
        j120 (0 : Int32)) (
        j120 (1 : Int32)))
def f_X9_unitBy_L35 (h0 : Nat) (x1 : Int32) (x2 : Int32) (x3 : Int32) (x4 : Int32) (k : Int32 → ZM → Prop) (r4 : Int32) : Int32 → Int32 → ZM → Prop :=
  zw2 fun r35 p35l6 p35l7 =>
    zat 7 h0 <| f_X9_bucketMany h0 x1 r4 fun r41 =>
    zif (r41 ≤ p35l7) (
      k p35l6) (
      zat 7 h0 <| f_X9_of h0 x1 r4 p35l7 (1 : Int32) fun r54 =>
      zat 7 h0 <| f_X9_of h0 x1 r4 p35l7 (0 : Int32) fun r64 =>
      zat 7 h0 <| f_X9_of h0 x1 r4 p35l7 (0 : Int32) fun r82 =>
      zjn (fun (p129l6 : Int32) (p129l7 : Int32) (p129l9 : Int32) =>
          zat 7 h0 <| f_X9_of h0 x1 r4 p129l7 (2 : Int32) fun r136 =>
          zat 7 h0 <| f_X9_of h0 x1 r4 p129l7 (3 : Int32) fun r148 =>
          zjn (fun (p230l6 : Int32) =>
              r35 p230l6 (p129l7 + (1 : Int32))) fun j230 =>
          zif (p129l9 ≤ 0) (
            j230 p129l6) (
            zjn (fun (p185s0 : Int32) =>
                zjn (fun (p227s1 : Int32) =>
                    j230 (p129l6 + p227s1)) fun j227 =>
                zif (x4 = (1 : Int32)) (
                  j227 p185s0) (
                  zif (x4 = (2 : Int32)) (
                    j227 (if (r148 * p129l9) < r136 then (r148 * p129l9) else r136)) (
                    zne ((r54 - r64) + (1 : Int32)) 0 <|
                    j227 ((r136 * p129l9) / ((r54 - r64) + (1 : Int32)))))) fun j185 =>
            zif (p129l9 = ((r54 - r64) + (1 : Int32))) (
              j185 r136) (
              znm (if (0 : Int32) < (r136 - (r148 * (((r54 - r64) + (1 : Int32)) - p129l9))) then (r136 - (r148 * (((r54 - r64) + (1 : Int32)) - p129l9))) else (0 : Int32)) fun v182 =>
              j185 v182))) fun j129 =>
      f_X9_unitBy_L87 h0 x1 x2 x3 r4 j129 p35l6 p35l7 (0 : Int32) r82)
def f_X9_unitBy (h0 : Nat) (x1 : Int32) (x2 : Int32) (x3 : Int32) (x4 : Int32) (k : Int32 → ZM → Prop) : ZM → Prop :=
  zat 7 h0 <| f_X9_unitAt h0 x2 x3 (1 : Int32) fun r4 =>
  zat 7 h0 <| f_X9_unitAt h0 x2 x3 (2 : Int32) fun r13 =>
  zif (r13 = (3 : Int32)) (
    zat 7 h0 <| f_X9_countAt h0 x1 r4 (-1 : Int32) fun r25 =>
    k r25) (
    f_X9_unitBy_L35 h0 x1 x2 x3 x4 k r4 (0 : Int32) (0 : Int32))
def f_X9_termBy_L12 (h0 : Nat) (x1 : Int32) (x2 : Int32) (x3 : Int32) (x4 : Int32) (j83 : Int32 → Int32 → Int32 → ZM → Prop) : Int32 → Int32 → Int32 → Int32 → ZM → Prop :=
  zw4 fun r12 p12l5 p12l6 p12l7 p12l8 =>
    zgR 7 h0 14 fun g15 =>
    zaI 50 g15 x2 fun g19 =>
    zif (g19 ≤ p12l8) (
      j83 p12l5 p12l6 p12l7) (
      zat 7 h0 <| f_X9_unitAt h0 x2 p12l8 (0 : Int32) fun r28 =>
      zjn (fun (p77l5 : Int32) (p77l6 : Int32) (p77l7 : Int32) =>
          r12 p77l5 p77l6 p77l7 (p12l8 + (1 : Int32))) fun j77 =>
      zif (r28 = x3) (
        zat 7 h0 <| f_X9_unitBy h0 x1 x2 p12l8 x4 fun r42 =>
        zjn (fun (p75s0 : Int32) =>
            j77 (p12l5 + (1 : Int32)) (p12l6 + r42) p75s0) fun j75 =>
        zif (p12l7 = (-1 : Int32)) (
          j75 r42) (
          j75 (if r42 < p12l7 then r42 else p12l7))) (
        j77 p12l5 p12l6 p12l7))
def f_X9_termBy (h0 : Nat) (x1 : Int32) (x2 : Int32) (x3 : Int32) (x4 : Int32) (k : Int32 → ZM → Prop) : ZM → Prop :=
  zjn (fun (p83l5 : Int32) (p83l6 : Int32) (p83l7 : Int32) =>
      zjn (fun (p111s0 : Int32) =>
          k p111s0) fun j111 =>
      zif (x4 = (1 : Int32)) (
        zat 7 h0 <| f_X9_rowsOf h0 x1 fun r98 =>
        znm (if (0 : Int32) < (p83l6 - ((p83l5 - (1 : Int32)) * r98)) then (p83l6 - ((p83l5 - (1 : Int32)) * r98)) else (0 : Int32)) fun v103 =>
        j111 v103) (
        j111 p83l7)) fun j83 =>
  f_X9_termBy_L12 h0 x1 x2 x3 x4 j83 (0 : Int32) (0 : Int32) (-1 : Int32) (0 : Int32)
def f_X9_whereBy_L9 (h0 : Nat) (x1 : Int32) (x2 : Int32) (x3 : Int32) (j52 : Int32 → Int32 → ZM → Prop) : Int32 → Int32 → Int32 → ZM → Prop :=
  zw3 fun r9 p9l4 p9l5 p9l6 =>
    zat 7 h0 <| f_X9_terms h0 x2 fun r13 =>
    zif (r13 ≤ p9l6) (
      j52 p9l4 p9l5) (
      zat 7 h0 <| f_X9_termBy h0 x1 x2 p9l6 x3 fun r25 =>
      r9 (p9l4 + r25) (if p9l5 < r25 then r25 else p9l5) (p9l6 + (1 : Int32)))
def f_X9_whereBy (h0 : Nat) (x1 : Int32) (x2 : Int32) (x3 : Int32) (k : Int32 → ZM → Prop) : ZM → Prop :=
  zjn (fun (p52l4 : Int32) (p52l5 : Int32) =>
      zjn (fun (p72s0 : Int32) =>
          k p72s0) fun j72 =>
      zif (x3 = (1 : Int32)) (
        j72 p52l5) (
        zat 7 h0 <| f_X9_rowsOf h0 x1 fun r66 =>
        j72 (if r66 < p52l4 then r66 else p52l4))) fun j52 =>
  f_X9_whereBy_L9 h0 x1 x2 x3 j52 (0 : Int32) (0 : Int32) (0 : Int32)
def f_X9_begin (h0 : Nat) (k : ZM → Prop) : ZM → Prop :=
  zpI 7 h0 26 (0 : Int32) <|
  zgR 7 h0 16 fun g7 =>
  zaI 50 g7 (1071 : Int32) fun g13 =>
  zpI 7 h0 27 g13 <|
  zpZ 7 h0 28 (0 : Int32) <|
  k
def f_X9_take (h0 : Nat) (x1 : Int32) (k : ZM → Prop) : ZM → Prop :=
  zgR 7 h0 25 fun g1 =>
  zgI 7 h0 26 fun g5 =>
  zbI 50 g1 g5 x1 <|
  zgI 7 h0 26 fun g12 =>
  zpI 7 h0 26 (g12 + (1 : Int32)) <|
  k
def f_X9_isOver (h0 : Nat) (k : Int32 → ZM → Prop) : ZM → Prop :=
  zgI 7 h0 27 fun g2 =>
  zjn (fun (p13s1 : Int32) =>
      zpZ 7 h0 28 p13s1 <|
      zgI 7 h0 27 fun g18 =>
      zpI 7 h0 27 (g18 - (1 : Int32)) <|
      zgI 7 h0 28 fun g27 =>
      zrz g27 k) fun j13 =>
  zif (g2 = 0) (
    j13 (1 : Int32)) (
    j13 (0 : Int32))
def f_X9_isTermOf_L6 (h0 : Nat) (x1 : Int32) (x2 : Int32) (x3 : Int32) (x4 : Int32) (k : Int32 → ZM → Prop) : Int32 → Int32 → ZM → Prop :=
  zw2 fun r6 p6l5 p6l6 =>
    zgR 7 h0 14 fun g9 =>
    zaI 50 g9 x1 fun g13 =>
    zif (g13 ≤ p6l6) (
      zrz p6l5 k) (
      zjn (fun (p66s0 : Int32) =>
          r6 p66s0 (p6l6 + (1 : Int32))) fun j66 =>
      zjn (
          j66 (0 : Int32)) fun j65 =>
      zif (p6l5 = 0) (
        j65) (
        zat 7 h0 <| f_X9_unitAt h0 x1 p6l6 (0 : Int32) fun r27 =>
        zjn (
            j66 (1 : Int32)) fun j61 =>
        zif (r27 = x2) (
          zat 7 h0 <| f_X9_unitAt h0 x1 p6l6 (1 : Int32) fun r43 =>
          zjn (fun (p55s3 : Int32) =>
              zat 7 h0 <| f_X9_isUnitOf h0 x1 p6l6 p55s3 fun r55 =>
              zif (r55 = 0) (
                j65) (
                j61)) fun j55 =>
          zif (r43 = 0) (
            j55 x3) (
            j55 x4)) (
          j61)))
def f_X9_isTermOf (h0 : Nat) (x1 : Int32) (x2 : Int32) (x3 : Int32) (x4 : Int32) (k : Int32 → ZM → Prop) : ZM → Prop :=
  f_X9_isTermOf_L6 h0 x1 x2 x3 x4 k (1 : Int32) (0 : Int32)
def f_X9_holds_L6 (h0 : Nat) (x1 : Int32) (x2 : Int32) (x3 : Int32) (k : Int32 → ZM → Prop) : Int32 → Int32 → ZM → Prop :=
  zw2 fun r6 p6l4 p6l5 =>
    zat 7 h0 <| f_X9_terms h0 x1 fun r10 =>
    zif (r10 ≤ p6l5) (
      zrz p6l4 k) (
      zjn (fun (p38s0 : Int32) =>
          r6 p38s0 (p6l5 + (1 : Int32))) fun j38 =>
      zjn (
          j38 (1 : Int32)) fun j33 =>
      zif (p6l4 = 0) (
        zat 7 h0 <| f_X9_isTermOf h0 x1 p6l5 x2 x3 fun r27 =>
        zif (r27 = 0) (
          j38 (0 : Int32)) (
          j33)) (
        j33))
def f_X9_holds (h0 : Nat) (x1 : Int32) (x2 : Int32) (x3 : Int32) (k : Int32 → ZM → Prop) : ZM → Prop :=
  f_X9_holds_L6 h0 x1 x2 x3 k (0 : Int32) (0 : Int32)
def f_X9_truth_L6 (h0 : Nat) (x1 : Int32) (x2 : Int32) (x3 : Int32) (k : Int32 → ZM → Prop) : Int32 → Int32 → ZM → Prop :=
  zw2 fun r6 p6l4 p6l5 =>
    zif ((289 : Int32) ≤ p6l5) (
      k p6l4) (
      zne (17 : Int32) 0 <|
      zjn (fun (p33s0 : Int32) =>
          zne (17 : Int32) 0 <|
          zjn (fun (p54s0 : Int32) =>
              zgR 7 h0 16 fun g57 =>
              zaI 50 g57 (((357 : Int32) * x1) + p6l5) fun g68 =>
              zjn (fun (p119l4 : Int32) =>
                  r6 p119l4 (p6l5 + (1 : Int32))) fun j119 =>
              zif (g68 ≤ 0) (
                j119 p6l4) (
                zjn (
                    zat 7 h0 <| f_X9_holds h0 x2 p33s0 p54s0 fun r93 =>
                    zjn (fun (p116s1 : Int32) =>
                        j119 (p6l4 + p116s1)) fun j116 =>
                    zif (r93 = 0) (
                      j116 (0 : Int32)) (
                      zgR 7 h0 16 fun g100 =>
                      zaI 50 g100 (((357 : Int32) * x1) + p6l5) fun g111 =>
                      j116 g111)) fun j85 =>
                zif (x3 = 0) (
                  j85) (
                  zat 7 h0 <| f_X9_isOver h0 fun r77 =>
                  zif (r77 = 0) (
                    j85) (
                    k (-1 : Int32))))) fun j54 =>
          zif ((p6l5 - p6l5 / (17 : Int32) * (17 : Int32)) = (16 : Int32)) (
            j54 (-1 : Int32)) (
            zne (17 : Int32) 0 <|
            j54 (p6l5 - p6l5 / (17 : Int32) * (17 : Int32)))) fun j33 =>
      zif ((p6l5 / (17 : Int32)) = (16 : Int32)) (
        j33 (-1 : Int32)) (
        zne (17 : Int32) 0 <|
        j33 (p6l5 / (17 : Int32))))
def f_X9_truth (h0 : Nat) (x1 : Int32) (x2 : Int32) (x3 : Int32) (k : Int32 → ZM → Prop) : ZM → Prop :=
  f_X9_truth_L6 h0 x1 x2 x3 k (0 : Int32) (0 : Int32)
def f_X9_finish_L10 (h0 : Nat) (j35 : ZM → Prop) : Int32 → ZM → Prop :=
  zw1 fun r10 p10l4 =>
    zif (p10l4 < 0) (
      j35) (
      zgR 7 h0 25 fun g19 =>
      zaI 50 g19 p10l4 fun g24 =>
      zat 7 h0 <| f_X9_take h0 ((10 : Int32) + g24) <|
      r10 (p10l4 + (-1 : Int32)))
def f_X9_finish (h0 : Nat) (x1 : Int64) (k : Int64 → ZM → Prop) : ZM → Prop :=
  zgI 7 h0 26 fun g1 =>
  zjn (
      zgI 7 h0 28 fun g36 =>
      zjn (
          zgI 7 h0 28 fun g53 =>
          zjn (fun (p66s0 : Int64) =>
              k p66s0) fun j66 =>
          zif (g53 = 0) (
            j66 x1) (
            j66 (-1 : Int64))) fun j52 =>
      zif (g36 = 0) (
        j52) (
        zgR 7 h0 17 fun g43 =>
        zaI 50 g43 (4 : Int32) fun g48 =>
        zbI 50 g43 (4 : Int32) (g48 + (1 : Int32)) <|
        j52)) fun j35 =>
  f_X9_finish_L10 h0 j35 (g1 - (1 : Int32))
def f_X9_where (h0 : Nat) (x1 : Int32) (x2 : Int32) (x3 : Int32) (k : Int32 → ZM → Prop) : ZM → Prop :=
  zat 7 h0 <| f_X9_isTable h0 x1 fun r2 =>
  zjn (
      k (-1 : Int32)) fun j28 =>
  zif (r2 = 0) (
    j28) (
    zat 7 h0 <| f_X9_isWhere h0 x2 fun r10 =>
    zif (r10 = 0) (
      j28) (
      f_X9_in x3.toInt64 (0 : Int64) (3 : Int64) fun r22 =>
      zif (r22 = 0) (
        j28) (
        zif (x3 ≤ 0) (
          zat 7 h0 <| f_X9_begin h0 <|
          zat 7 h0 <| f_X9_take h0 x1 <|
          zat 7 h0 <| f_X9_truth h0 x1 x2 (1 : Int32) fun r56 =>
          zat 7 h0 <| f_X9_finish h0 r56.toInt64 fun r60 =>
          k r60.toInt32) (
          zat 7 h0 <| f_X9_whereBy h0 x1 x2 x3 fun r38 =>
          k r38))))
def f_X9_countIn (h0 : Nat) (x1 : Int32) (x2 : Int32) (x3 : Int32) (k : Int32 → ZM → Prop) : ZM → Prop :=
  zgR 7 h0 11 fun g2 =>
  zaI 50 g2 x1 fun g6 =>
  zjn (fun (p21s0 : Int32) =>
      k p21s0) fun j21 =>
  zif (g6 ≤ x3) (
    j21 (0 : Int32)) (
    zat 7 h0 <| f_X9_countAt h0 x1 x2 x3 fun r14 =>
    j21 r14)
def f_X9_sortCounts_L24 (h0 : Nat) (x3 : Int32) (r15 : Int32) (j71 : Int32 → Int32 → ZM → Prop) : Int32 → Int32 → ZM → Prop :=
  zw2 fun r24 p24l4 p24l6 =>
    zif (p24l6 ≤ 0) (
      j71 p24l4 p24l6) (
      zgR 7 h0 29 fun g30 =>
      zaI 50 g30 ((x3 + p24l6) - (1 : Int32)) fun g39 =>
      zif (r15 ≤ g39) (
        j71 p24l4 p24l6) (
        zgR 7 h0 29 fun g46 =>
        zgR 7 h0 29 fun g54 =>
        zaI 50 g54 ((x3 + p24l6) - (1 : Int32)) fun g63 =>
        zbI 50 g46 (x3 + p24l6) g63 <|
        r24 p24l4 (p24l6 + (-1 : Int32))))
def f_X9_sortCounts_L3 (h0 : Nat) (x1 : Int32) (x2 : Int32) (x3 : Int32) (k : ZM → Prop) : Int32 → ZM → Prop :=
  zw1 fun r3 p3l4 =>
    zif ((16 : Int32) ≤ p3l4) (
      k) (
      zat 7 h0 <| f_X9_countIn h0 x1 x2 p3l4 fun r15 =>
      zjn (fun (p71l4 : Int32) (p71l6 : Int32) =>
          zgR 7 h0 29 fun g72 =>
          zbI 50 g72 (x3 + p71l6) r15 <|
          r3 (p71l4 + (1 : Int32))) fun j71 =>
      f_X9_sortCounts_L24 h0 x3 r15 j71 p3l4 p3l4)
def f_X9_sortCounts (h0 : Nat) (x1 : Int32) (x2 : Int32) (x3 : Int32) (k : ZM → Prop) : ZM → Prop :=
  f_X9_sortCounts_L3 h0 x1 x2 x3 k (0 : Int32)
def f_X9_degrees_L22 (h0 : Nat) (k : Int64 → ZM → Prop) : Int64 → Int32 → ZM → Prop :=
  zw2 fun r22 p22l5 p22l7 =>
    zif ((16 : Int32) ≤ p22l7) (
      k p22l5) (
      zgR 7 h0 29 fun g32 =>
      zaI 50 g32 p22l7 fun g37 =>
      zgR 7 h0 29 fun g40 =>
      zaI 50 g40 ((16 : Int32) + p22l7) fun g48 =>
      r22 (p22l5 + (g37.toInt64 * g48.toInt64)) (p22l7 + (1 : Int32)))
def f_X9_degrees (h0 : Nat) (x1 : Int32) (x2 : Int32) (x3 : Int32) (x4 : Int32) (k : Int64 → ZM → Prop) : ZM → Prop :=
  zat 7 h0 <| f_X9_sortCounts h0 x1 x2 (0 : Int32) <|
  zat 7 h0 <| f_X9_sortCounts h0 x3 x4 (16 : Int32) <|
  f_X9_degrees_L22 h0 k (0 : Int64) (0 : Int32)
def f_X9_joinBy_L20 (h0 : Nat) (x1 : Int32) (x2 : Int32) (x3 : Int32) (x4 : Int32) (x5 : Int32) (j242 : Int64 → Int32 → ZM → Prop) : Int64 → Int32 → Int32 → ZM → Prop :=
  zw3 fun r20 p20l6 p20l8 p20l9 =>
    zat 7 h0 <| f_X9_bucketMany h0 x3 x4 fun r26 =>
    zif (r26 ≤ p20l9) (
      j242 p20l6 p20l8) (
      zat 7 h0 <| f_X9_of h0 x1 x2 p20l8 (1 : Int32) fun r38 =>
      zat 7 h0 <| f_X9_of h0 x3 x4 p20l9 (1 : Int32) fun r48 =>
      zat 7 h0 <| f_X9_of h0 x1 x2 p20l8 (0 : Int32) fun r60 =>
      zat 7 h0 <| f_X9_of h0 x3 x4 p20l9 (0 : Int32) fun r70 =>
      znm (((if r48 < r38 then r48 else r38) - (if r60 < r70 then r70 else r60)) + (1 : Int32)) fun v78 =>
      zjn (fun (p236l6 : Int64) =>
          r20 p236l6 p20l8 (p20l9 + (1 : Int32))) fun j236 =>
      zif ((lg_cmp v78.toInt64 (0 : Int64)) ≤ 0) (
        j236 p20l6) (
        zat 7 h0 <| f_X9_of h0 x1 x2 p20l8 (2 : Int32) fun r95 =>
        zat 7 h0 <| f_X9_of h0 x3 x4 p20l9 (2 : Int32) fun r108 =>
        zat 7 h0 <| f_X9_of h0 x1 x2 p20l8 (3 : Int32) fun r120 =>
        zat 7 h0 <| f_X9_of h0 x3 x4 p20l9 (3 : Int32) fun r133 =>
        zat 7 h0 <| f_X9_of h0 x1 x2 p20l8 (1 : Int32) fun r145 =>
        zat 7 h0 <| f_X9_of h0 x1 x2 p20l8 (0 : Int32) fun r154 =>
        zat 7 h0 <| f_X9_of h0 x3 x4 p20l9 (1 : Int32) fun r168 =>
        zat 7 h0 <| f_X9_of h0 x3 x4 p20l9 (0 : Int32) fun r178 =>
        znm (((r145 - r154) + (1 : Int32)).toInt64 * ((r168 - r178) + (1 : Int32)).toInt64) fun v185 =>
        zjn (fun (p233s1 : Int64) =>
            j236 (p20l6 + p233s1)) fun j233 =>
        zif (x5 = 0) (
          zne v185 0 <|
          j233 (((v78.toInt64 * r95.toInt64) * r108.toInt64) / v185)) (
          znm (if (r108.toInt64 * r120.toInt64) < (r95.toInt64 * r133.toInt64) then (r108.toInt64 * r120.toInt64) else (r95.toInt64 * r133.toInt64)) fun v213 =>
          znm (if v213 < ((v78.toInt64 * r120.toInt64) * r133.toInt64) then v213 else ((v78.toInt64 * r120.toInt64) * r133.toInt64)) fun v216 =>
          j233 v216)))
def f_X9_joinBy_L6 (h0 : Nat) (x1 : Int32) (x2 : Int32) (x3 : Int32) (x4 : Int32) (x5 : Int32) (k : Int64 → ZM → Prop) : Int64 → Int32 → ZM → Prop :=
  zw2 fun r6 p6l6 p6l8 =>
    zat 7 h0 <| f_X9_bucketMany h0 x1 x2 fun r11 =>
    zif (r11 ≤ p6l8) (
      k p6l6) (
      zjn (fun (p242l6 : Int64) (p242l8 : Int32) =>
          r6 p242l6 (p242l8 + (1 : Int32))) fun j242 =>
      f_X9_joinBy_L20 h0 x1 x2 x3 x4 x5 j242 p6l6 p6l8 (0 : Int32))
def f_X9_joinBy (h0 : Nat) (x1 : Int32) (x2 : Int32) (x3 : Int32) (x4 : Int32) (x5 : Int32) (k : Int64 → ZM → Prop) : ZM → Prop :=
  f_X9_joinBy_L6 h0 x1 x2 x3 x4 x5 k (0 : Int64) (0 : Int32)
def f_X9_joinTruth_L6 (h0 : Nat) (x1 : Int32) (x2 : Int32) (x3 : Int32) (x4 : Int32) (k : Int64 → ZM → Prop) : Int64 → Int32 → ZM → Prop :=
  zw2 fun r6 p6l5 p6l7 =>
    zgR 7 h0 11 fun g9 =>
    zaI 50 g9 x1 fun g13 =>
    zif (g13 ≤ p6l7) (
      k p6l5) (
      zat 7 h0 <| f_X9_countAt h0 x1 x2 p6l7 fun r22 =>
      zjn (fun (p62l5 : Int64) =>
          r6 p62l5 (p6l7 + (1 : Int32))) fun j62 =>
      zif (r22 ≤ 0) (
        j62 p6l5) (
        zat 7 h0 <| f_X9_isOver h0 fun r33 =>
        zif (r33 = 0) (
          zat 7 h0 <| f_X9_countIn h0 x3 x4 p6l7 fun r54 =>
          j62 (p6l5 + (r22.toInt64 * r54.toInt64))) (
          k (-1 : Int64))))
def f_X9_joinTruth (h0 : Nat) (x1 : Int32) (x2 : Int32) (x3 : Int32) (x4 : Int32) (k : Int64 → ZM → Prop) : ZM → Prop :=
  f_X9_joinTruth_L6 h0 x1 x2 x3 x4 k (0 : Int64) (0 : Int32)
def f_X9_join (h0 : Nat) (x1 : Int32) (x2 : Int32) (x3 : Int32) (x4 : Int32) (x5 : Int32) (k : Int64 → ZM → Prop) : ZM → Prop :=
  zat 7 h0 <| f_X9_isColumn h0 x1 x2 fun r3 =>
  zjn (
      k (-1 : Int64)) fun j32 =>
  zif (r3 = 0) (
    j32) (
    zat 7 h0 <| f_X9_isColumn h0 x3 x4 fun r13 =>
    zif (r13 = 0) (
      j32) (
      f_X9_in x5.toInt64 (0 : Int64) (3 : Int64) fun r26 =>
      zif (r26 = 0) (
        j32) (
        zif (x5 ≤ 0) (
          zat 7 h0 <| f_X9_begin h0 <|
          zat 7 h0 <| f_X9_take h0 x1 <|
          zat 7 h0 <| f_X9_take h0 x3 <|
          zat 7 h0 <| f_X9_joinTruth h0 x1 x2 x3 x4 fun r101 =>
          zat 7 h0 <| f_X9_finish h0 r101 fun r104 =>
          k r104) (
          zjn (fun (p79s0 : Int64) =>
              k p79s0) fun j79 =>
          zif (x5 = (2 : Int32)) (
            zat 7 h0 <| f_X9_degrees h0 x1 x2 x3 x4 fun r53 =>
            j79 r53) (
            zjn (fun (p76s5 : Int32) =>
                zat 7 h0 <| f_X9_joinBy h0 x1 x2 x3 x4 p76s5 fun r76 =>
                j79 r76) fun j76 =>
            zif (x5 = (1 : Int32)) (
              j76 (1 : Int32)) (
              j76 (0 : Int32)))))))
def f_X9_greatestOf_L5 (h0 : Nat) (x1 : Int32) (x2 : Int32) (k : Int64 → ZM → Prop) : Int32 → Int32 → ZM → Prop :=
  zw2 fun r5 p5l3 p5l4 =>
    zat 7 h0 <| f_X9_bucketMany h0 x1 x2 fun r10 =>
    zif (r10 ≤ p5l4) (
      k p5l3.toInt64) (
      zat 7 h0 <| f_X9_of h0 x1 x2 p5l4 (3 : Int32) fun r23 =>
      r5 (if p5l3 < r23 then r23 else p5l3) (p5l4 + (1 : Int32)))
def f_X9_greatestOf (h0 : Nat) (x1 : Int32) (x2 : Int32) (k : Int64 → ZM → Prop) : ZM → Prop :=
  f_X9_greatestOf_L5 h0 x1 x2 k (0 : Int32) (0 : Int32)
def f_X9_chainTruth_L17 (h0 : Nat) (k : Int64 → ZM → Prop) (j89 : Int64 → Int32 → ZM → Prop) : Int64 → Int32 → Int32 → ZM → Prop :=
  zw3 fun r17 p17l1 p17l3 p17l4 =>
    zgR 7 h0 11 fun g20 =>
    zaI 50 g20 (1 : Int32) fun g24 =>
    zif (g24 ≤ p17l4) (
      j89 p17l1 p17l3) (
      zgR 7 h0 16 fun g29 =>
      f_X9_place (1 : Int32) p17l3 p17l4 fun r36 =>
      zaI 50 g29 r36 fun g39 =>
      zjn (fun (p83l1 : Int64) =>
          r17 p83l1 p17l3 (p17l4 + (1 : Int32))) fun j83 =>
      zif (g39 ≤ 0) (
        j83 p17l1) (
        zat 7 h0 <| f_X9_isOver h0 fun r48 =>
        zif (r48 = 0) (
          zat 7 h0 <| f_X9_countIn h0 (0 : Int32) (1 : Int32) p17l3 fun r66 =>
          zat 7 h0 <| f_X9_countIn h0 (2 : Int32) (0 : Int32) p17l4 fun r76 =>
          j83 (p17l1 + ((g39.toInt64 * r66.toInt64) * r76.toInt64))) (
          k (-1 : Int64))))
def f_X9_chainTruth_L4 (h0 : Nat) (k : Int64 → ZM → Prop) : Int64 → Int32 → ZM → Prop :=
  zw2 fun r4 p4l1 p4l3 =>
    zgR 7 h0 11 fun g6 =>
    zaI 50 g6 (1 : Int32) fun g10 =>
    zif (g10 ≤ p4l3) (
      k p4l1) (
      zjn (fun (p89l1 : Int64) (p89l3 : Int32) =>
          r4 p89l1 (p89l3 + (1 : Int32))) fun j89 =>
      f_X9_chainTruth_L17 h0 k j89 p4l1 p4l3 (0 : Int32))
def f_X9_chainTruth (h0 : Nat) (k : Int64 → ZM → Prop) : ZM → Prop :=
  f_X9_chainTruth_L4 h0 k (0 : Int64) (0 : Int32)
def f_X9_chain (h0 : Nat) (x1 : Int32) (k : Int64 → ZM → Prop) : ZM → Prop :=
  zgI 7 h0 12 fun g1 =>
  zjn (
      k (-1 : Int64)) fun j18 =>
  zif (g1 < (3 : Int32)) (
    j18) (
    f_X9_in x1.toInt64 (0 : Int64) (1 : Int64) fun r12 =>
    zif (r12 = 0) (
      j18) (
      zif (x1 = (1 : Int32)) (
        zat 7 h0 <| f_X9_joinBy h0 (0 : Int32) (1 : Int32) (1 : Int32) (0 : Int32) (1 : Int32) fun r33 =>
        zat 7 h0 <| f_X9_greatestOf h0 (2 : Int32) (0 : Int32) fun r39 =>
        zat 7 h0 <| f_X9_joinBy h0 (1 : Int32) (1 : Int32) (2 : Int32) (0 : Int32) (1 : Int32) fun r49 =>
        zat 7 h0 <| f_X9_greatestOf h0 (0 : Int32) (1 : Int32) fun r55 =>
        k (if (r49 * r55) < (r33 * r39) then (r49 * r55) else (r33 * r39))) (
        zat 7 h0 <| f_X9_begin h0 <|
        zat 7 h0 <| f_X9_take h0 (0 : Int32) <|
        zat 7 h0 <| f_X9_take h0 (1 : Int32) <|
        zat 7 h0 <| f_X9_take h0 (2 : Int32) <|
        zat 7 h0 <| f_X9_chainTruth h0 fun r84 =>
        zat 7 h0 <| f_X9_finish h0 r84 fun r87 =>
        k r87)))
def f_X9_gapIfBuilt_L57 (h0 : Nat) (k : Int32 → ZM → Prop) (r41 : Int32) (r48 : Int32) : Int32 → ZM → Prop :=
  zw1 fun r57 p57l5 =>
    zif ((1072 : Int32) ≤ p57l5) (
      k (r41 - r48)) (
      zgR 7 h0 16 fun g66 =>
      zgR 7 h0 30 fun g72 =>
      zaI 50 g72 p57l5 fun g77 =>
      zbI 50 g66 p57l5 g77 <|
      r57 (p57l5 + (1 : Int32)))
def f_X9_gapIfBuilt_L3 (h0 : Nat) (j31 : ZM → Prop) : Int32 → ZM → Prop :=
  zw1 fun r3 p3l4 =>
    zif ((1072 : Int32) ≤ p3l4) (
      j31) (
      zgR 7 h0 30 fun g12 =>
      zgR 7 h0 16 fun g18 =>
      zaI 50 g18 p3l4 fun g23 =>
      zbI 50 g12 p3l4 g23 <|
      r3 (p3l4 + (1 : Int32)))
def f_X9_gapIfBuilt (h0 : Nat) (x1 : Int32) (x2 : Int32) (x3 : Int32) (k : Int32 → ZM → Prop) : ZM → Prop :=
  zjn (
      zat 7 h0 <| f_X9_buildNow h0 x1 x3 <|
      zat 7 h0 <| f_X9_whereBy h0 x1 x2 (2 : Int32) fun r41 =>
      zat 7 h0 <| f_X9_whereBy h0 x1 x2 (1 : Int32) fun r48 =>
      f_X9_gapIfBuilt_L57 h0 k r41 r48 (0 : Int32)) fun j31 =>
  f_X9_gapIfBuilt_L3 h0 j31 (0 : Int32)
def f_X9_narrow_L56 (h0 : Nat) (x1 : Int32) (x2 : Int32) (j93 : Int32 → Int32 → ZM → Prop) : Int32 → Int32 → Int32 → ZM → Prop :=
  zw3 fun r56 p56l5 p56l6 p56l7 =>
    zif ((2 : Int32) ≤ p56l7) (
      j93 p56l5 p56l6) (
      zat 7 h0 <| f_X9_gapIfBuilt h0 x1 x2 p56l7 fun r67 =>
      zjn (fun (p87l5 : Int32) (p87l6 : Int32) =>
          r56 p87l5 p87l6 (p56l7 + (1 : Int32))) fun j87 =>
      zif (p56l6 ≤ r67) (
        j87 p56l5 p56l6) (
        j87 p56l7 r67))
def f_X9_narrow (h0 : Nat) (x1 : Int32) (x2 : Int32) (x3 : Int32) (k : Int32 → ZM → Prop) : ZM → Prop :=
  zat 7 h0 <| f_X9_isTable h0 x1 fun r2 =>
  zjn (
      k (-1000000 : Int32)) fun j26 =>
  zif (r2 = 0) (
    j26) (
    zat 7 h0 <| f_X9_isWhere h0 x2 fun r10 =>
    zif (r10 = 0) (
      j26) (
      f_X9_in x3.toInt64 (0 : Int64) (1 : Int64) fun r20 =>
      zif (r20 = 0) (
        j26) (
        zat 7 h0 <| f_X9_whereBy h0 x1 x2 (2 : Int32) fun r33 =>
        zat 7 h0 <| f_X9_whereBy h0 x1 x2 (1 : Int32) fun r40 =>
        zjn (fun (p93l5 : Int32) (p93l6 : Int32) =>
            zjn (fun (p107s0 : Int32) =>
                k p107s0) fun j107 =>
            zif (x3 = 0) (
              j107 p93l5) (
              j107 ((r33 - r40) - p93l6))) fun j93 =>
        f_X9_narrow_L56 h0 x1 x2 j93 (-1 : Int32) (r33 - r40) (0 : Int32))))
def f_X9_odds_L115 (j140 : Int64 → Int64 → Int64 → ZM → Prop) : Int64 → Int64 → Int64 → Int64 → ZM → Prop :=
  zw4 fun r115 p115l5 p115l7 p115l9 p115l11 =>
    zif ((lg_cmp p115l11 (0 : Int64)) = 0) (
      j140 p115l5 p115l7 p115l9) (
      zne p115l11 0 <|
      r115 p115l5 p115l7 p115l11 (p115l9 - p115l9 / p115l11 * p115l11))
def f_X9_odds_L61 (h0 : Nat) (x1 : Int32) (x2 : Int32) (x3 : Int32) (j107 : Int64 → Int64 → ZM → Prop) : Int64 → Int64 → Int32 → ZM → Prop :=
  zw3 fun r61 p61l5 p61l7 p61l9 =>
    zif (x3 ≤ p61l9) (
      j107 p61l5 p61l7) (
      zat 7 h0 <| f_X9_truth h0 x1 x2 (0 : Int32) fun r74 =>
      znm ((if (0 : Int32) < (r74 - p61l9) then (r74 - p61l9) else (0 : Int32)).toInt64) fun v83 =>
      zat 7 h0 <| f_X9_rowsOf h0 x1 fun r91 =>
      r61 (p61l5 * v83) (p61l7 * (r91 - p61l9).toInt64) (p61l9 + (1 : Int32)))
def f_X9_odds (h0 : Nat) (x1 : Int32) (x2 : Int32) (x3 : Int32) (x4 : Int32) (k : Int64 → ZM → Prop) : ZM → Prop :=
  zat 7 h0 <| f_X9_isTable h0 x1 fun r2 =>
  zjn (
      k (-1 : Int64)) fun j48 =>
  zif (r2 = 0) (
    j48) (
    zat 7 h0 <| f_X9_isWhere h0 x2 fun r10 =>
    zif (r10 = 0) (
      j48) (
      f_X9_in x3.toInt64 (1 : Int64) (4 : Int64) fun r22 =>
      zif (r22 = 0) (
        j48) (
        f_X9_in x4.toInt64 (0 : Int64) (1 : Int64) fun r33 =>
        zif (r33 = 0) (
          j48) (
          zat 7 h0 <| f_X9_rowsOf h0 x1 fun r41 =>
          zif (x3 ≤ r41) (
            zjn (fun (p107l5 : Int64) (p107l7 : Int64) =>
                zjn (fun (p140l5 : Int64) (p140l7 : Int64) (p140l9 : Int64) =>
                    zjn (fun (p158s0 : Int64) =>
                        k p158s0) fun j158 =>
                    zif (x4 = 0) (
                      zne p140l9 0 <|
                      j158 (p140l5 / p140l9)) (
                      zne p140l9 0 <|
                      j158 (p140l7 / p140l9))) fun j140 =>
                f_X9_odds_L115 j140 p107l5 p107l7 p107l7 p107l5) fun j107 =>
            f_X9_odds_L61 h0 x1 x2 x3 j107 (1 : Int64) (1 : Int64) (0 : Int32)) (
            j48)))))
def f_X9_unit (h0 : Nat) (x1 : Int32) (x2 : Int32) (x3 : Int32) (k : Int32 → ZM → Prop) : ZM → Prop :=
  zat 7 h0 <| f_X9_isWhere h0 x1 fun r2 =>
  zjn (fun (p50s0 : Int32) =>
      k p50s0) fun j50 =>
  zjn (
      j50 (-1000000 : Int32)) fun j48 =>
  zif (r2 = 0) (
    j48) (
    zgR 7 h0 14 fun g12 =>
    zaI 50 g12 x1 fun g16 =>
    f_X9_in x2.toInt64 (0 : Int64) ((g16 - (1 : Int32)).toInt64) fun r20 =>
    zif (r20 = 0) (
      j48) (
      f_X9_in x3.toInt64 (0 : Int64) (3 : Int64) fun r32 =>
      zif (r32 = 0) (
        j48) (
        zat 7 h0 <| f_X9_unitAt h0 x1 x2 x3 fun r42 =>
        j50 r42)))
def f_X9_shares (h0 : Nat) (x1 : Int32) (x2 : Int32) (k : Int32 → ZM → Prop) : ZM → Prop :=
  zat 7 h0 <| f_X9_isTable h0 x1 fun r2 =>
  zjn (
      k (-1 : Int32)) fun j20 =>
  zif (r2 = 0) (
    j20) (
    f_X9_in x2.toInt64 (0 : Int64) (999 : Int64) fun r14 =>
    zif (r14 = 0) (
      j20) (
      zat 7 h0 <| f_X9_rowsOfAll h0 fun r23 =>
      zjn (fun (p45s0 : Int32) =>
          k p45s0) fun j45 =>
      zif (r23 = 0) (
        j45 (0 : Int32)) (
        zat 7 h0 <| f_X9_rowsOf h0 x1 fun r36 =>
        zat 7 h0 <| f_X9_rowsOfAll h0 fun r41 =>
        zne r41 0 <|
        j45 ((x2 * r36) / r41))))
def f_X9_longest_L4 (h0 : Nat) (k : Int32 → ZM → Prop) : Int32 → Int32 → ZM → Prop :=
  zw2 fun r4 p4l1 p4l2 =>
    zgI 7 h0 12 fun g6 =>
    zif (g6 ≤ p4l2) (
      k p4l1) (
      zat 7 h0 <| f_X9_rowsOf h0 p4l2 fun r14 =>
      zat 7 h0 <| f_X9_rowsOf h0 p4l1 fun r19 =>
      zjn (fun (p30s0 : Int32) =>
          r4 p30s0 (p4l2 + (1 : Int32))) fun j30 =>
      zif (r14 ≤ r19) (
        j30 p4l1) (
        j30 p4l2))
def f_X9_longest (h0 : Nat) (k : Int32 → ZM → Prop) : ZM → Prop :=
  f_X9_longest_L4 h0 k (0 : Int32) (1 : Int32)
def f_X9_mostDrifted_L4 (h0 : Nat) (j57 : Int32 → ZM → Prop) : Int32 → Int32 → ZM → Prop :=
  zw2 fun r4 p4l1 p4l2 =>
    zgI 7 h0 12 fun g7 =>
    zif (((2 : Int32) * g7) ≤ p4l2) (
      j57 p4l1) (
      zgR 7 h0 16 fun g15 =>
      zne (2 : Int32) 0 <|
      zne (2 : Int32) 0 <|
      f_X9_drift (p4l2 / (2 : Int32)) (p4l2 - p4l2 / (2 : Int32) * (2 : Int32)) fun r24 =>
      zaI 50 g15 r24 fun g27 =>
      zgR 7 h0 16 fun g29 =>
      zne (2 : Int32) 0 <|
      zne (2 : Int32) 0 <|
      f_X9_drift (p4l1 / (2 : Int32)) (p4l1 - p4l1 / (2 : Int32) * (2 : Int32)) fun r38 =>
      zaI 50 g29 r38 fun g41 =>
      zjn (fun (p50s0 : Int32) =>
          r4 p50s0 (p4l2 + (1 : Int32))) fun j50 =>
      zif (g27 ≤ g41) (
        j50 p4l1) (
        j50 p4l2))
def f_X9_mostDrifted (h0 : Nat) (k : Int32 → ZM → Prop) : ZM → Prop :=
  zjn (fun (p57l1 : Int32) =>
      zne (2 : Int32) 0 <|
      zne (2 : Int32) 0 <|
      znm (((10 : Int32) * (p57l1 / (2 : Int32))) + (p57l1 - p57l1 / (2 : Int32) * (2 : Int32))) fun v66 =>
      k v66) fun j57 =>
  f_X9_mostDrifted_L4 h0 j57 (0 : Int32) (1 : Int32)
def f_X9_greatestTotal_L16 (h0 : Nat) (j53 : Int32 → Int32 → ZM → Prop) : Int32 → Int32 → Int32 → ZM → Prop :=
  zw3 fun r16 p16l1 p16l2 p16l3 =>
    zne (2 : Int32) 0 <|
    zne (2 : Int32) 0 <|
    zat 7 h0 <| f_X9_bucketMany h0 (p16l2 / (2 : Int32)) (p16l2 - p16l2 / (2 : Int32) * (2 : Int32)) fun r24 =>
    zif (r24 ≤ p16l3) (
      j53 p16l1 p16l2) (
      zne (2 : Int32) 0 <|
      zne (2 : Int32) 0 <|
      zat 7 h0 <| f_X9_of h0 (p16l2 / (2 : Int32)) (p16l2 - p16l2 / (2 : Int32) * (2 : Int32)) p16l3 (2 : Int32) fun r40 =>
      r16 (if p16l1 < r40 then r40 else p16l1) p16l2 (p16l3 + (1 : Int32)))
def f_X9_greatestTotal_L4 (h0 : Nat) (k : Int32 → ZM → Prop) : Int32 → Int32 → ZM → Prop :=
  zw2 fun r4 p4l1 p4l2 =>
    zgI 7 h0 12 fun g7 =>
    zif (((2 : Int32) * g7) ≤ p4l2) (
      k p4l1) (
      zjn (fun (p53l1 : Int32) (p53l2 : Int32) =>
          r4 p53l1 (p53l2 + (1 : Int32))) fun j53 =>
      f_X9_greatestTotal_L16 h0 j53 p4l1 p4l2 (0 : Int32))
def f_X9_greatestTotal (h0 : Nat) (k : Int32 → ZM → Prop) : ZM → Prop :=
  f_X9_greatestTotal_L4 h0 k (0 : Int32) (0 : Int32)
def f_X9_mostAlike_L14 (h0 : Nat) (j44 : Int32 → Int32 → ZM → Prop) : Int32 → Int32 → Int32 → ZM → Prop :=
  zw3 fun r14 p14l1 p14l2 p14l3 =>
    zif ((289 : Int32) ≤ p14l3) (
      j44 p14l1 p14l2) (
      zgR 7 h0 16 fun g23 =>
      zaI 50 g23 (((357 : Int32) * p14l2) + p14l3) fun g33 =>
      r14 (if p14l1 < g33 then g33 else p14l1) p14l2 (p14l3 + (1 : Int32)))
def f_X9_mostAlike_L4 (h0 : Nat) (k : Int32 → ZM → Prop) : Int32 → Int32 → ZM → Prop :=
  zw2 fun r4 p4l1 p4l2 =>
    zgI 7 h0 12 fun g6 =>
    zif (g6 ≤ p4l2) (
      k p4l1) (
      zjn (fun (p44l1 : Int32) (p44l2 : Int32) =>
          r4 p44l1 (p44l2 + (1 : Int32))) fun j44 =>
      f_X9_mostAlike_L14 h0 j44 p4l1 p4l2 (0 : Int32))
def f_X9_mostAlike (h0 : Nat) (k : Int32 → ZM → Prop) : ZM → Prop :=
  f_X9_mostAlike_L4 h0 k (0 : Int32) (0 : Int32)
def f_X9_commonest_L15 (h0 : Nat) (j58 : Int32 → Int32 → Int32 → ZM → Prop) : Int32 → Int32 → Int32 → Int32 → ZM → Prop :=
  zw4 fun r15 p15l1 p15l2 p15l3 p15l4 =>
    zgI 7 h0 12 fun g19 =>
    zif (((2 : Int32) * g19) ≤ p15l4) (
      j58 p15l1 p15l2 p15l3) (
      zne (2 : Int32) 0 <|
      zne (2 : Int32) 0 <|
      zat 7 h0 <| f_X9_countIn h0 (p15l4 / (2 : Int32)) (p15l4 - p15l4 / (2 : Int32) * (2 : Int32)) p15l3 fun r36 =>
      zjn (fun (p52l1 : Int32) (p52l2 : Int32) =>
          r15 p52l1 p52l2 p15l3 (p15l4 + (1 : Int32))) fun j52 =>
      zif (r36 ≤ p15l2) (
        j52 p15l1 p15l2) (
        j52 p15l3 r36))
def f_X9_commonest_L6 (h0 : Nat) (k : Int32 → ZM → Prop) : Int32 → Int32 → Int32 → ZM → Prop :=
  zw3 fun r6 p6l1 p6l2 p6l3 =>
    zif ((16 : Int32) ≤ p6l3) (
      k p6l1) (
      zjn (fun (p58l1 : Int32) (p58l2 : Int32) (p58l3 : Int32) =>
          r6 p58l1 p58l2 (p58l3 + (1 : Int32))) fun j58 =>
      f_X9_commonest_L15 h0 j58 p6l1 p6l2 p6l3 (0 : Int32))
def f_X9_commonest (h0 : Nat) (k : Int32 → ZM → Prop) : ZM → Prop :=
  f_X9_commonest_L6 h0 k (0 : Int32) (-1 : Int32) (0 : Int32)
def f_X9_most (h0 : Nat) (x1 : Int32) (k : Int32 → ZM → Prop) : ZM → Prop :=
  zat 7 h0 <| f_X9_isBook h0 fun r1 =>
  zjn (
      k (-1000000 : Int32)) fun j19 =>
  zif (r1 = 0) (
    j19) (
    f_X9_in x1.toInt64 (0 : Int64) (5 : Int64) fun r13 =>
    zif (r13 = 0) (
      j19) (
      zsw x1 0 [
        zat 7 h0 <| f_X9_longest h0 fun r57 =>
        k r57,
        zat 7 h0 <| f_X9_mostDrifted h0 fun r62 =>
        k r62,
        zat 7 h0 <| f_X9_greatestTotal h0 fun r67 =>
        k r67,
        zat 7 h0 <| f_X9_mostAlike h0 fun r72 =>
        k r72,
        zat 7 h0 <| f_X9_rowsOfAll h0 fun r77 =>
        k r77] (
        zat 7 h0 <| f_X9_commonest h0 fun r82 =>
        k r82)))
def f_X9_image_L11 (h0 : Nat) (j36 : ZM → Prop) : Int32 → ZM → Prop :=
  zw1 fun r11 p11l1 =>
    zif ((1253 : Int32) ≤ p11l1) (
      j36) (
      zgR 7 h0 31 fun g19 =>
      zgR 7 h0 16 fun g24 =>
      zaI 50 g24 p11l1 fun g28 =>
      zbI 50 g19 p11l1 g28 <|
      r11 (p11l1 + (1 : Int32)))
def f_X9_image (h0 : Nat) (k : Int32 → ZM → Prop) : ZM → Prop :=
  zat 7 h0 <| f_X9_isBook h0 fun r1 =>
  zif (r1 = 0) (
    k (-1 : Int32)) (
    zjn (
        zpZ 7 h0 32 (1 : Int32) <|
        zat 7 h0 <| f_X9_rowsOfAll h0 fun r42 =>
        k r42) fun j36 =>
    f_X9_image_L11 h0 j36 (0 : Int32))
def f_X9_back_L11 (h0 : Nat) (j36 : ZM → Prop) : Int32 → ZM → Prop :=
  zw1 fun r11 p11l1 =>
    zif ((1253 : Int32) ≤ p11l1) (
      j36) (
      zgR 7 h0 16 fun g19 =>
      zgR 7 h0 31 fun g24 =>
      zaI 50 g24 p11l1 fun g28 =>
      zbI 50 g19 p11l1 g28 <|
      r11 (p11l1 + (1 : Int32)))
def f_X9_back (h0 : Nat) (k : Int32 → ZM → Prop) : ZM → Prop :=
  zgI 7 h0 32 fun g1 =>
  zif (g1 = 0) (
    k (-1 : Int32)) (
    zjn (
        zpI 7 h0 23 (0 : Int32) <|
        zat 7 h0 <| f_X9_rowsOfAll h0 fun r42 =>
        k r42) fun j36 =>
    f_X9_back_L11 h0 j36 (0 : Int32))
def f_X9_count (h0 : Nat) (x1 : Int32) (k : Int32 → ZM → Prop) : ZM → Prop :=
  zsw x1 0 [
    zgI 7 h0 12 fun g41 =>
    k g41,
    zgI 7 h0 15 fun g46 =>
    k g46,
    zgI 7 h0 2 fun g51 =>
    k g51,
    zgR 7 h0 16 fun g56 =>
    zaI 50 g56 (1072 : Int32) fun g62 =>
    k g62,
    zgI 7 h0 23 fun g65 =>
    k g65,
    zgI 7 h0 26 fun g70 =>
    k g70] (
    k (-1000000 : Int32))
