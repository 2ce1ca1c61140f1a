def f_X1_divisor_d : Nat → Int64 → Int64 → (Int64 → ZM → Prop) → ZM → Prop
  | 0, x0, x2, k => zif (lg_cmp x2 0 = 0) (k x0) zno
  | d + 1, x0, x2, k => zif (lg_cmp x2 0 = 0) (k x0) (zne x2 0 <| f_X1_divisor_d d x2 (x0 - x0 / x2 * x2) k)
def f_X1_divisor (x0 x2 : Int64) (k : Int64 → ZM → Prop) : ZM → Prop := f_X1_divisor_d 100 x0 x2 k
def f_X1_bytes_L5 (x0 : Int32) (k : Int32 → ZM → Prop) : Int32 → Int32 → ZM → Prop :=
  zw2 fun r5 p5l1 p5l2 =>
    zif (p5l2 < 0) (
      k p5l1) (
      zjn (fun (p25s1 : Int32) =>
          r5 (p5l1 + p25s1) (p5l2 + (-8 : Int32))) fun j25 =>
      zif (((x0 >>> (p5l2 &&& 31)) &&& (255 : Int32)) = 0) (
        j25 (0 : Int32)) (
        j25 (1 : Int32)))
def f_X1_bytes (x0 : Int32) (k : Int32 → ZM → Prop) : ZM → Prop :=
  f_X1_bytes_L5 x0 k (0 : Int32) (24 : Int32)
def f_X1_bring_L3 (h0 : Nat) (x1 : Int32) (k : ZM → Prop) : Int32 → ZM → Prop :=
  zw1 fun r3 p3l2 =>
    zif (p3l2 < 0) (
      k) (
      zjn (
          r3 (p3l2 + (-8 : Int32))) fun j43 =>
      zif (((x1 >>> (p3l2 &&& 31)) &&& (255 : Int32)) = 0) (
        j43) (
        zgR 1 h0 0 fun g21 =>
        zgI 1 h0 1 fun g25 =>
        zbB 52 g21 g25 ((x1 >>> (p3l2 &&& 31)).toInt8.toInt32) <|
        zgI 1 h0 1 fun g35 =>
        zpI 1 h0 1 (g35 + (1 : Int32)) <|
        j43))
def f_X1_bring (h0 : Nat) (x1 : Int32) (k : ZM → Prop) : ZM → Prop :=
  f_X1_bring_L3 h0 x1 k (24 : Int32)
def f_X1_feed (h0 : Nat) (x1 : Int32) (x2 : Int32) (x3 : Int32) (x4 : Int32) (x5 : Int32) (k : Int32 → ZM → Prop) : ZM → Prop :=
  f_X1_bytes x1 fun r1 =>
  f_X1_bytes x2 fun r5 =>
  f_X1_bytes x3 fun r10 =>
  f_X1_bytes x4 fun r16 =>
  f_X1_bytes x5 fun r22 =>
  zgI 1 h0 1 fun g29 =>
  zif ((g29 + ((((r1 + r5) + r10) + r16) + r22)) ≤ (240 : Int32)) (
    zat 1 h0 <| f_X1_bring h0 x1 <|
    zat 1 h0 <| f_X1_bring h0 x2 <|
    zat 1 h0 <| f_X1_bring h0 x3 <|
    zat 1 h0 <| f_X1_bring h0 x4 <|
    zat 1 h0 <| f_X1_bring h0 x5 <|
    zgI 1 h0 1 fun g71 =>
    k g71) (
    k (-1 : Int32))
def f_X1_end (h0 : Nat) (x1 : Int32) (k : Int32 → ZM → Prop) : ZM → Prop :=
  zjn (
      zrz (0 : Int32) k) fun j12 =>
  zif (x1 < 0) (
    j12) (
    zgI 1 h0 1 fun g6 =>
    zif (x1 ≤ g6) (
      zpI 1 h0 1 x1 <|
      zrz (1 : Int32) k) (
      j12))
def f_X5_init (h0 : Nat) (k : ZM → Prop) : ZM → Prop :=
  zne h0 0 <|
  k
def f_X6_init (h0 : Nat) (k : ZM → Prop) : ZM → Prop :=
  zat 5 h0 <| f_X5_init h0 <|
  k
def f_X7_init (h0 : Nat) (k : ZM → Prop) : ZM → Prop :=
  zat 5 h0 <| f_X6_init h0 <|
  k
def f_X4_init_L15 (h0 : Nat) (k : ZM → Prop) : Int32 → ZM → Prop :=
  zw1 fun r15 p15l1 =>
    zif ((8 : Int32) ≤ p15l1) (
      k) (
      zgR 4 h0 0 fun g22 =>
      znO 5 4 fun n26 =>
      zat 5 n26 <| f_X7_init n26 <|
      zbR 58 5 g22 p15l1 n26 <|
      r15 (p15l1 + (1 : Int32)))
def f_X4_init (h0 : Nat) (k : ZM → Prop) : ZM → Prop :=
  zne h0 0 <|
  znA 58 (8 : Int32) fun n7 =>
  zpR 4 h0 0 n7 <|
  f_X4_init_L15 h0 k (0 : Int32)
def f_X3_init (h0 : Nat) (h1 : Nat) (k : ZM → Prop) : ZM → Prop :=
  zpR 3 h0 4 h1 <|
  zne h0 0 <|
  znA 50 (289 : Int32) fun n13 =>
  zpR 3 h0 0 n13 <|
  znA 57 (2 : Int32) fun n20 =>
  znO 4 3 fun n25 =>
  zat 4 n25 <| zclv 9 40 (f_X4_init n25) <|
  zbR 57 4 n20 (0 : Int32) n25 <|
  znO 4 3 fun n35 =>
  zat 4 n35 <| zclv 9 40 (f_X4_init n35) <|
  zbR 57 4 n20 (1 : Int32) n35 <|
  zpR 3 h0 1 n20 <|
  k
def f_X2_init (h0 : Nat) (h1 : Nat) (k : ZM → Prop) : ZM → Prop :=
  zpR 2 h0 4 h1 <|
  zne h0 0 <|
  znA 56 (3 : Int32) fun n11 =>
  znO 3 5 fun n16 =>
  zgR 2 h0 4 fun g21 =>
  zat 3 n16 <| zclv 22 377 (f_X3_init n16 g21) <|
  zbR 56 3 n11 (0 : Int32) n16 <|
  znO 3 5 fun n30 =>
  zgR 2 h0 4 fun g35 =>
  zat 3 n30 <| zclv 22 377 (f_X3_init n30 g35) <|
  zbR 56 3 n11 (1 : Int32) n30 <|
  znO 3 5 fun n44 =>
  zgR 2 h0 4 fun g49 =>
  zat 3 n44 <| zclv 22 377 (f_X3_init n44 g49) <|
  zbR 56 3 n11 (2 : Int32) n44 <|
  zpR 2 h0 0 n11 <|
  znA 50 (180 : Int32) fun n63 =>
  zpR 2 h0 1 n63 <|
  k
def f_J0_init_2_6 (h0 : Nat) (h1 : Nat) (h2 : Nat) (x3 : Int32) (x4 : Int32) (k : ZM → Prop) : ZM → Prop :=
  zne h0 0 <|
  zpR 6 h0 0 h0 <|
  zall fun g10 =>
  zpR 6 h0 1 g10 <|
  zall fun g17 =>
  zpR 6 h0 2 g17 <|
  zjn (
      zpR 6 h0 3 h1 <|
      zpR 6 h0 0 h2 <|
      zjn (
          k) fun j60 =>
      zif (x3 = 0) (
        zpR 6 h0 2 0 <|
        j60) (
        j60)) fun j41 =>
  zif (x4 = 0) (
    zpR 6 h0 1 0 <|
    j41) (
    zno)
def f_J0_init_2_10 (h0 : Nat) (h1 : Nat) (h2 : Nat) (x3 : Int32) (x4 : Int32) (k : ZM → Prop) : ZM → Prop :=
  zne h0 0 <|
  zpR 10 h0 0 h0 <|
  zall fun g10 =>
  zpR 10 h0 1 g10 <|
  zall fun g17 =>
  zpR 10 h0 2 g17 <|
  zjn (
      zpR 10 h0 3 h1 <|
      zpR 10 h0 0 h2 <|
      zjn (
          k) fun j60 =>
      zif (x3 = 0) (
        zpR 10 h0 2 0 <|
        j60) (
        j60)) fun j41 =>
  zif (x4 = 0) (
    zpR 10 h0 1 0 <|
    j41) (
    zno)
def f_J1_init_6 (h0 : Nat) (h1 : Nat) (h2 : Nat) (x3 : Int32) (x4 : Int32) (k : ZM → Prop) : ZM → Prop :=
  zat 6 h0 <| f_J0_init_2_6 h0 h1 h2 x3 x4 <|
  k
def f_J1_init_10 (h0 : Nat) (h1 : Nat) (h2 : Nat) (x3 : Int32) (x4 : Int32) (k : ZM → Prop) : ZM → Prop :=
  zat 10 h0 <| f_J0_init_2_10 h0 h1 h2 x3 x4 <|
  k
def f_X8_init (h0 : Nat) (k : ZM → Prop) : ZM → Prop :=
  zat 6 h0 <| f_J1_init_6 h0 0 0 (0 : Int32) (0 : Int32) <|
  k
def f_X1_init (h0 : Nat) (k : ZM → Prop) : ZM → Prop :=
  zne h0 0 <|
  znA 52 (240 : Int32) fun n8 =>
  zpR 1 h0 0 n8 <|
  znA 53 (4 : Int32) fun n15 =>
  zpR 1 h0 2 n15 <|
  znA 50 (5 : Int32) fun n23 =>
  zpR 1 h0 3 n23 <|
  znA 50 (16 : Int32) fun n31 =>
  zpR 1 h0 8 n31 <|
  znA 50 (17 : Int32) fun n39 =>
  zpR 1 h0 9 n39 <|
  znA 50 (17 : Int32) fun n47 =>
  zpR 1 h0 10 n47 <|
  zgr 54 51 (17 : Int32) (17 : Int32) fun n57 =>
  zpR 1 h0 11 n57 <|
  zgr 55 50 (17 : Int32) (17 : Int32) fun n69 =>
  zpR 1 h0 12 n69 <|
  znO 2 5 fun n77 =>
  zat 2 n77 <| zclv 71 1329 (f_X2_init n77 h0) <|
  zpR 1 h0 15 n77 <|
  znO 2 5 fun n89 =>
  zat 2 n89 <| zclv 71 1329 (f_X2_init n89 h0) <|
  zpR 1 h0 16 n89 <|
  znO 3 5 fun n101 =>
  zat 3 n101 <| zclv 22 377 (f_X3_init n101 h0) <|
  zpR 1 h0 17 n101 <|
  znA 59 (40 : Int32) fun n115 =>
  zpR 1 h0 18 n115 <|
  znO 6 6 fun n122 =>
  zat 6 n122 <| f_X8_init n122 <|
  zpR 1 h0 22 n122 <|
  znA 50 (6 : Int32) fun n135 =>
  zpR 1 h0 23 n135 <|
  znA 50 (16 : Int32) fun n143 =>
  zpR 1 h0 26 n143 <|
  znA 50 (16 : Int32) fun n151 =>
  zpR 1 h0 27 n151 <|
  zpR 1 h0 5 0 <|
  k
def f_X1_isIn (x0 : Int64) (x2 : Int64) (x4 : Int64) (k : Int32 → ZM → Prop) : ZM → Prop :=
  zjn (fun (p18s0 : Int32) =>
      zrz p18s0 k) fun j18 =>
  zjn (
      j18 (0 : Int32)) fun j17 =>
  zif ((lg_cmp x0 x2) < 0) (
    j17) (
    zif (0 < (lg_cmp x0 x4)) (
      j17) (
      j18 (1 : Int32)))
def f_X10_init (h0 : Nat) (h1 : Nat) (k : ZM → Prop) : ZM → Prop :=
  zpR 8 h0 1 h1 <|
  zne h0 0 <|
  k
def f_X11_init (h0 : Nat) (k : ZM → Prop) : ZM → Prop :=
  zne h0 0 <|
  znA 60 (3 : Int32) fun n6 =>
  zpR 9 h0 0 n6 <|
  znA 61 (20 : Int32) fun n15 =>
  zpR 9 h0 1 n15 <|
  k
def f_X10_peek_L0 (h0 : Nat) (j44 : ZM → Prop) : ZM → Prop :=
  zw0 fun r0 =>
    zgI 8 h0 0 fun g1 =>
    zgR 8 h0 1 fun g5 =>
    zgI 1 g5 1 fun g8 =>
    zif (g8 ≤ g1) (
      j44) (
      zgR 8 h0 1 fun g15 =>
      zgR 1 g15 0 fun g18 =>
      zgI 8 h0 0 fun g22 =>
      zaI 52 g18 g22 fun g25 =>
      zif (g25 = (32 : Int32)) (
        zgI 8 h0 0 fun g33 =>
        zpI 8 h0 0 (g33 + (1 : Int32)) <|
        r0) (
        j44))
def f_X10_peek (h0 : Nat) (k : Int32 → ZM → Prop) : ZM → Prop :=
  zjn (
      zgI 8 h0 0 fun g45 =>
      zgR 8 h0 1 fun g49 =>
      zgI 1 g49 1 fun g52 =>
      zjn (fun (p78s0 : Int32) =>
          k p78s0) fun j78 =>
      zif (g52 ≤ g45) (
        j78 (-1 : Int32)) (
        zgR 8 h0 1 fun g59 =>
        zgR 1 g59 0 fun g62 =>
        zgI 8 h0 0 fun g66 =>
        zaI 52 g62 g66 fun g69 =>
        j78 (g69 &&& (255 : Int32)))) fun j44 =>
  f_X10_peek_L0 h0 j44
def f_X12_init (h0 : Nat) (x1 : Int32) (k : ZM → Prop) : ZM → Prop :=
  zat 10 h0 <| f_J1_init_10 h0 0 0 (0 : Int32) (0 : Int32) <|
  zpI 10 h0 6 x1 <|
  k
def f_X10_take (h0 : Nat) (x1 : Int32) (kx : Nat → ZM → Prop) (k : Int32 → ZM → Prop) : ZM → Prop :=
  zjn (
      znO 10 7 fun n18 =>
      zgI 8 h0 0 fun g23 =>
      zat 10 n18 <| f_X12_init n18 g23 <|
      zat 10 n18 (kx n18)) fun j18 =>
  zif (x1 = 0) (
    j18) (
    zgI 8 h0 0 fun g5 =>
    zgR 8 h0 1 fun g9 =>
    zgI 1 g9 1 fun g12 =>
    zif (g5 < g12) (
      zgI 8 h0 0 fun g32 =>
      zpI 8 h0 0 (g32 + (1 : Int32)) <|
      zgR 8 h0 1 fun g41 =>
      zgR 1 g41 0 fun g44 =>
      zgI 8 h0 0 fun g48 =>
      zaI 52 g44 (g48 - (1 : Int32)) fun g53 =>
      k g53) (
      j18))
def f_X13_init_11 (h0 : Nat) (h1 : Nat) (k : ZM → Prop) : ZM → Prop :=
  zne h0 0 <|
  zpR 11 h0 0 h1 <|
  k
def f_X13_init_12 (h0 : Nat) (h1 : Nat) (k : ZM → Prop) : ZM → Prop :=
  zne h0 0 <|
  zpR 12 h0 0 h1 <|
  k
def f_X13_init_13 (h0 : Nat) (h1 : Nat) (k : ZM → Prop) : ZM → Prop :=
  zne h0 0 <|
  zpR 13 h0 0 h1 <|
  k
def f_X14_init_11 (h0 : Nat) (h1 : Nat) (k : ZM → Prop) : ZM → Prop :=
  zat 11 h0 <| f_X13_init_11 h0 h1 <|
  k
def f_X14_init_12 (h0 : Nat) (h1 : Nat) (k : ZM → Prop) : ZM → Prop :=
  zat 12 h0 <| f_X13_init_12 h0 h1 <|
  k
def f_X14_init_13 (h0 : Nat) (h1 : Nat) (k : ZM → Prop) : ZM → Prop :=
  zat 13 h0 <| f_X13_init_13 h0 h1 <|
  k
def f_X15_init (h0 : Nat) (k : ZM → Prop) : ZM → Prop :=
  znA 50 (3 : Int32) fun n2 =>
  zbI 50 n2 (0 : Int32) (3 : Int32) <|
  zbI 50 n2 (1 : Int32) (20 : Int32) <|
  zbI 50 n2 (2 : Int32) (999 : Int32) <|
  zat 11 h0 <| f_X14_init_11 h0 n2 <|
  k
def f_X16_init (h0 : Nat) (k : ZM → Prop) : ZM → Prop :=
  znA 50 (1 : Int32) fun n2 =>
  zbI 50 n2 (0 : Int32) (8 : Int32) <|
  zat 12 h0 <| f_X14_init_12 h0 n2 <|
  k
def f_X17_init (h0 : Nat) (k : ZM → Prop) : ZM → Prop :=
  znA 50 (4 : Int32) fun n2 =>
  zbI 50 n2 (0 : Int32) (0 : Int32) <|
  zbI 50 n2 (1 : Int32) (-1 : Int32) <|
  zbI 50 n2 (2 : Int32) (-1 : Int32) <|
  zbI 50 n2 (3 : Int32) (1 : Int32) <|
  zat 13 h0 <| f_X14_init_13 h0 n2 <|
  k
def f_X17_items (h0 : Nat) (k : Nat → ZM → Prop) : ZM → Prop :=
  zgE 6 fun g0 =>
  k g0
def f_X15_items (h0 : Nat) (k : Nat → ZM → Prop) : ZM → Prop :=
  zgE 4 fun g0 =>
  k g0
def f_X16_items (h0 : Nat) (k : Nat → ZM → Prop) : ZM → Prop :=
  zgE 5 fun g0 =>
  k g0
def f_X1_has (x0 : Int32) (x1 : Int32) (k : Int32 → ZM → Prop) : ZM → Prop :=
  zjn (fun (p14s0 : Int32) =>
      zrz p14s0 k) fun j14 =>
  zif (((x0 >>> (x1 &&& 31)) &&& (1 : Int32)) = (1 : Int32)) (
    j14 (1 : Int32)) (
    j14 (0 : Int32))
def f_X10_isDigit (h0 : Nat) (k : Int32 → ZM → Prop) : ZM → Prop :=
  zgI 8 h0 0 fun g1 =>
  zgR 8 h0 1 fun g5 =>
  zgI 1 g5 1 fun g8 =>
  zjn (fun (p53s0 : Int32) =>
      zrz p53s0 k) fun j53 =>
  zjn (
      j53 (0 : Int32)) fun j52 =>
  zif (g8 ≤ g1) (
    j52) (
    zgR 8 h0 1 fun g15 =>
    zgR 1 g15 0 fun g18 =>
    zgI 8 h0 0 fun g22 =>
    zaI 52 g18 g22 fun g25 =>
    zif (g25 < (48 : Int32)) (
      j52) (
      zgR 8 h0 1 fun g32 =>
      zgR 1 g32 0 fun g35 =>
      zgI 8 h0 0 fun g39 =>
      zaI 52 g35 g39 fun g42 =>
      zif ((57 : Int32) < g42) (
        j52) (
        j53 (1 : Int32))))
def f_X10_number_L20 (h0 : Nat) (x1 : Int32) (kx : Nat → ZM → Prop) (j53 : Int32 → ZM → Prop) : Int32 → Int32 → ZM → Prop :=
  zw2 fun r20 p20l3 p20l4 =>
    zif (x1 ≤ p20l4) (
      j53 p20l3) (
      zat 8 h0 <| f_X10_isDigit h0 fun r27 =>
      zif (r27 = 0) (
        j53 p20l3) (
        zat 8 h0 <| zclx' 1 7 (fun k9 kx9 => f_X10_take h0 (1 : Int32) kx9 k9) kx fun r39 =>
        r20 ((((10 : Int32) * p20l3) + r39) - (48 : Int32)) (p20l4 + (1 : Int32))))
def f_X10_number (h0 : Nat) (x1 : Int32) (kx : Nat → ZM → Prop) (k : Int32 → ZM → Prop) : ZM → Prop :=
  zat 8 h0 <| f_X10_peek h0 fun r1 =>
  zat 8 h0 <| f_X10_isDigit h0 fun r7 =>
  zat 8 h0 <| zclx' 1 7 (fun k9 kx9 => f_X10_take h0 r7 kx9 k9) kx fun r10 =>
  zjn (fun (p53l3 : Int32) =>
      zat 8 h0 <| f_X10_isDigit h0 fun r54 =>
      zif (r54 = 0) (
        k p53l3) (
        znO 10 7 fun n60 =>
        zgI 8 h0 0 fun g65 =>
        zat 10 n60 <| f_X12_init n60 g65 <|
        zat 10 n60 (kx n60))) fun j53 =>
  f_X10_number_L20 h0 x1 kx j53 (r10 - (48 : Int32)) (1 : Int32)
def f_X13_isWell (h0 : Nat) (x1 : Int32) (x2 : Int32) (k : Int32 → ZM → Prop) : ZM → Prop :=
  zjn (fun (p9s0 : Int32) =>
      zrz p9s0 k) fun j9 =>
  zif (x2 < 0) (
    j9 (0 : Int32)) (
    j9 (1 : Int32))
def f_X16_isWell (h0 : Nat) (x1 : Int32) (x2 : Int32) (k : Int32 → ZM → Prop) : ZM → Prop :=
  zat 12 h0 <| f_X13_isWell h0 x1 x2 fun r3 =>
  zjn (fun (p28s0 : Int32) =>
      zrz p28s0 k) fun j28 =>
  zjn (
      j28 (0 : Int32)) fun j27 =>
  zif (r3 = 0) (
    j27) (
    f_X1_isIn x2.toInt64 (2 : Int64) (16 : Int64) fun r17 =>
    zif (r17 = 0) (
      j27) (
      j28 (1 : Int32)))
def f_X15_isWell (h0 : Nat) (x1 : Int32) (x2 : Int32) (k : Int32 → ZM → Prop) : ZM → Prop :=
  zat 11 h0 <| f_X13_isWell h0 x1 x2 fun r3 =>
  zjn (fun (p56s0 : Int32) =>
      zrz p56s0 k) fun j56 =>
  zjn (
      j56 (0 : Int32)) fun j55 =>
  zif (r3 = 0) (
    j55) (
    zjn (fun (p21s1 : Int64) =>
        zjn (fun (p45s2 : Int64) =>
            f_X1_isIn x2.toInt64 p21s1 p45s2 fun r45 =>
            zif (r45 = 0) (
              j55) (
              j56 (1 : Int32))) fun j45 =>
        zif (x1 = 0) (
          j45 (8 : Int64)) (
          zif (x1 = (1 : Int32)) (
            j45 (99 : Int64)) (
            j45 (999 : Int64)))) fun j21 =>
    zif (x1 = (1 : Int32)) (
      j21 (0 : Int64)) (
      j21 (1 : Int64)))
def f_X17_isWell (h0 : Nat) (x1 : Int32) (x2 : Int32) (k : Int32 → ZM → Prop) : ZM → Prop :=
  zat 13 h0 <| f_X13_isWell h0 x1 x2 fun r3 =>
  zjn (fun (p56s0 : Int32) =>
      zrz p56s0 k) fun j56 =>
  zjn (
      j56 (0 : Int32)) fun j55 =>
  zif (r3 = 0) (
    j55) (
    zjn (fun (p21s1 : Int64) =>
        zjn (fun (p45s2 : Int64) =>
            f_X1_isIn x2.toInt64 p21s1 p45s2 fun r45 =>
            zif (r45 = 0) (
              j55) (
              j56 (1 : Int32))) fun j45 =>
        zif (x1 = 0) (
          j45 (2 : Int64)) (
          zif (x1 = (3 : Int32)) (
            j45 (40 : Int64)) (
            j45 (15 : Int64)))) fun j21 =>
    zif (x1 = (3 : Int32)) (
      j21 (1 : Int64)) (
      j21 (0 : Int64)))
def f_X10_items_11_L26 (h0 : Nat) (h1 : Nat) (k : ZM → Prop) (kx : Nat → ZM → Prop) : Int32 → Int32 → ZM → Prop :=
  zw2 fun r26 p26l2 p26l4 =>
    zif (p26l4 = (-1 : Int32)) (
      k) (
      f_X1_has p26l2 p26l4 fun r36 =>
      zjn (fun (p47s1 : Int32) =>
          zat 8 h0 <| zclx' 1 7 (fun k9 kx9 => f_X10_take h0 p47s1 kx9 k9) kx fun r47 =>
          zgR 11 h1 0 fun g59 =>
          zat 8 h0 <| zclx' 8 56 (fun k9 kx9 => f_X10_number h0 (3 : Int32) kx9 k9) kx fun r66 =>
          zbI 50 g59 p26l4 r66 <|
          zgR 11 h1 0 fun g74 =>
          zaI 50 g74 p26l4 fun g79 =>
          zat 11 h1 <| f_X15_isWell h1 p26l4 g79 fun r80 =>
          zif (r80 = 0) (
            znO 10 7 fun n86 =>
            zgI 8 h0 0 fun g91 =>
            zat 10 n86 <| f_X12_init n86 (g91 - (1 : Int32)) <|
            zat 10 n86 (kx n86)) (
            zat 8 h0 <| f_X10_peek h0 fun r101 =>
            zjn (fun (p122s0 : Int32) =>
                r26 (p26l2 ||| ((1 : Int32) <<< (p26l4 &&& 31))) p122s0) fun j122 =>
            zif (r101 = (-1 : Int32)) (
              j122 (-1 : Int32)) (
              zat 11 h1 <| f_X15_items h1 fun r115 =>
              zix r115 r101 fun r119 =>
              j122 r119))) fun j47 =>
      zif (r36 = 0) (
        j47 (1 : Int32)) (
        j47 (0 : Int32)))
def f_X10_items_11 (h0 : Nat) (h1 : Nat) (kx : Nat → ZM → Prop) (k : ZM → Prop) : ZM → Prop :=
  zat 8 h0 <| f_X10_peek h0 fun r3 =>
  zjn (fun (p24s0 : Int32) =>
      f_X10_items_11_L26 h0 h1 k kx (0 : Int32) p24s0) fun j24 =>
  zif (r3 = (-1 : Int32)) (
    j24 (-1 : Int32)) (
    zat 11 h1 <| f_X15_items h1 fun r17 =>
    zix r17 r3 fun r21 =>
    j24 r21)
def f_X10_items_12_L26 (h0 : Nat) (h1 : Nat) (k : ZM → Prop) (kx : Nat → ZM → Prop) : Int32 → Int32 → ZM → Prop :=
  zw2 fun r26 p26l2 p26l4 =>
    zif (p26l4 = (-1 : Int32)) (
      k) (
      f_X1_has p26l2 p26l4 fun r36 =>
      zjn (fun (p47s1 : Int32) =>
          zat 8 h0 <| zclx' 1 7 (fun k9 kx9 => f_X10_take h0 p47s1 kx9 k9) kx fun r47 =>
          zgR 12 h1 0 fun g59 =>
          zat 8 h0 <| zclx' 8 56 (fun k9 kx9 => f_X10_number h0 (3 : Int32) kx9 k9) kx fun r66 =>
          zbI 50 g59 p26l4 r66 <|
          zgR 12 h1 0 fun g74 =>
          zaI 50 g74 p26l4 fun g79 =>
          zat 12 h1 <| f_X16_isWell h1 p26l4 g79 fun r80 =>
          zif (r80 = 0) (
            znO 10 7 fun n86 =>
            zgI 8 h0 0 fun g91 =>
            zat 10 n86 <| f_X12_init n86 (g91 - (1 : Int32)) <|
            zat 10 n86 (kx n86)) (
            zat 8 h0 <| f_X10_peek h0 fun r101 =>
            zjn (fun (p122s0 : Int32) =>
                r26 (p26l2 ||| ((1 : Int32) <<< (p26l4 &&& 31))) p122s0) fun j122 =>
            zif (r101 = (-1 : Int32)) (
              j122 (-1 : Int32)) (
              zat 12 h1 <| f_X16_items h1 fun r115 =>
              zix r115 r101 fun r119 =>
              j122 r119))) fun j47 =>
      zif (r36 = 0) (
        j47 (1 : Int32)) (
        j47 (0 : Int32)))
def f_X10_items_12 (h0 : Nat) (h1 : Nat) (kx : Nat → ZM → Prop) (k : ZM → Prop) : ZM → Prop :=
  zat 8 h0 <| f_X10_peek h0 fun r3 =>
  zjn (fun (p24s0 : Int32) =>
      f_X10_items_12_L26 h0 h1 k kx (0 : Int32) p24s0) fun j24 =>
  zif (r3 = (-1 : Int32)) (
    j24 (-1 : Int32)) (
    zat 12 h1 <| f_X16_items h1 fun r17 =>
    zix r17 r3 fun r21 =>
    j24 r21)
def f_X10_items_13_L26 (h0 : Nat) (h1 : Nat) (k : ZM → Prop) (kx : Nat → ZM → Prop) : Int32 → Int32 → ZM → Prop :=
  zw2 fun r26 p26l2 p26l4 =>
    zif (p26l4 = (-1 : Int32)) (
      k) (
      f_X1_has p26l2 p26l4 fun r36 =>
      zjn (fun (p47s1 : Int32) =>
          zat 8 h0 <| zclx' 1 7 (fun k9 kx9 => f_X10_take h0 p47s1 kx9 k9) kx fun r47 =>
          zgR 13 h1 0 fun g59 =>
          zat 8 h0 <| zclx' 8 56 (fun k9 kx9 => f_X10_number h0 (3 : Int32) kx9 k9) kx fun r66 =>
          zbI 50 g59 p26l4 r66 <|
          zgR 13 h1 0 fun g74 =>
          zaI 50 g74 p26l4 fun g79 =>
          zat 13 h1 <| f_X17_isWell h1 p26l4 g79 fun r80 =>
          zif (r80 = 0) (
            znO 10 7 fun n86 =>
            zgI 8 h0 0 fun g91 =>
            zat 10 n86 <| f_X12_init n86 (g91 - (1 : Int32)) <|
            zat 10 n86 (kx n86)) (
            zat 8 h0 <| f_X10_peek h0 fun r101 =>
            zjn (fun (p122s0 : Int32) =>
                r26 (p26l2 ||| ((1 : Int32) <<< (p26l4 &&& 31))) p122s0) fun j122 =>
            zif (r101 = (-1 : Int32)) (
              j122 (-1 : Int32)) (
              zat 13 h1 <| f_X17_items h1 fun r115 =>
              zix r115 r101 fun r119 =>
              j122 r119))) fun j47 =>
      zif (r36 = 0) (
        j47 (1 : Int32)) (
        j47 (0 : Int32)))
def f_X10_items_13 (h0 : Nat) (h1 : Nat) (kx : Nat → ZM → Prop) (k : ZM → Prop) : ZM → Prop :=
  zat 8 h0 <| f_X10_peek h0 fun r3 =>
  zjn (fun (p24s0 : Int32) =>
      f_X10_items_13_L26 h0 h1 k kx (0 : Int32) p24s0) fun j24 =>
  zif (r3 = (-1 : Int32)) (
    j24 (-1 : Int32)) (
    zat 13 h1 <| f_X17_items h1 fun r17 =>
    zix r17 r3 fun r21 =>
    j24 r21)
def f_X10_clause (h0 : Nat) (h1 : Nat) (kx : Nat → ZM → Prop) (k : ZM → Prop) : ZM → Prop :=
  zat 8 h0 <| f_X10_peek h0 fun r1 =>
  zjn (fun (p53s1 : Int32) =>
      zat 8 h0 <| zclx' 1 7 (fun k9 kx9 => f_X10_take h0 p53s1 kx9 k9) kx fun r53 =>
      zjn (fun (p163l3 : Nat) =>
          zjn (
              k) fun j165c =>
          zor (zat 11 p163l3 <| zat 8 h0 <| zclvx' 60 420 (fun k9 kx9 => f_X10_items_11 h0 p163l3 kx9 k9) kx j165c) (zor (zat 12 p163l3 <| zat 8 h0 <| zclvx' 60 420 (fun k9 kx9 => f_X10_items_12 h0 p163l3 kx9 k9) kx j165c) (zat 13 p163l3 <| zat 8 h0 <| zclvx' 60 420 (fun k9 kx9 => f_X10_items_13 h0 p163l3 kx9 k9) kx j165c))) fun j163 =>
      zif (r53 = (115 : Int32)) (
        znO 11 1 fun n64 =>
        zat 11 n64 <| zclv 1 3 (f_X15_init n64) <|
        zpR 9 h1 2 n64 <|
        zgR 9 h1 2 fun g75 =>
        j163 g75) (
        zif (r53 = (116 : Int32)) (
          zgR 9 h1 0 fun g89 =>
          zgI 9 h1 3 fun g93 =>
          znO 12 1 fun n96 =>
          zat 12 n96 <| zclv 1 1 (f_X16_init n96) <|
          zbR 60 12 g89 g93 n96 <|
          zgR 9 h1 0 fun g105 =>
          zgI 9 h1 3 fun g109 =>
          zaR 60 g105 g109 fun g112 =>
          zgI 9 h1 3 fun g116 =>
          zpI 9 h1 3 (g116 + (1 : Int32)) <|
          j163 g112) (
          zgR 9 h1 1 fun g128 =>
          zgI 9 h1 4 fun g132 =>
          znO 13 1 fun n135 =>
          zat 13 n135 <| zclv 1 4 (f_X17_init n135) <|
          zbR 61 13 g128 g132 n135 <|
          zgR 9 h1 1 fun g144 =>
          zgI 9 h1 4 fun g148 =>
          zaR 61 g144 g148 fun g151 =>
          zgI 9 h1 4 fun g155 =>
          zpI 9 h1 4 (g155 + (1 : Int32)) <|
          j163 g151))) fun j53 =>
  zjn (
      j53 (1 : Int32)) fun j48 =>
  zjn (
      zjn (
          zjn (
              j53 (0 : Int32)) fun j52 =>
          zif (r1 = (114 : Int32)) (
            zgI 9 h1 4 fun g40 =>
            zif ((20 : Int32) ≤ g40) (
              j52) (
              j48)) (
            j52)) fun j33 =>
      zif (r1 = (116 : Int32)) (
        zgI 9 h1 3 fun g26 =>
        zif (g26 < (3 : Int32)) (
          j48) (
          j33)) (
        j33)) fun j19 =>
  zif (r1 = (115 : Int32)) (
    zgR 9 h1 2 fun g13 =>
    zif (g13 = 0) (
      j48) (
      j19)) (
    j19)
def f_X10_ends (h0 : Nat) (kx : Nat → ZM → Prop) (k : ZM → Prop) : ZM → Prop :=
  zat 8 h0 <| f_X10_peek h0 fun r1 =>
  zif (r1 = (-1 : Int32)) (
    k) (
    znO 10 7 fun n8 =>
    zgI 8 h0 0 fun g13 =>
    zat 10 n8 <| f_X12_init n8 g13 <|
    zat 10 n8 (kx n8))
def f_X11_isWhole_L20 (h0 : Nat) (k : Int32 → ZM → Prop) (j78 : ZM → Prop) (j86 : ZM → Prop) : Int32 → ZM → Prop :=
  zw1 fun r20 p20l1 =>
    zgI 9 h0 4 fun g22 =>
    zif (g22 ≤ p20l1) (
      j86) (
      zgR 9 h0 1 fun g29 =>
      zaR 61 g29 p20l1 fun g33 =>
      zgR 13 g33 0 fun g34 =>
      zaI 50 g34 (0 : Int32) fun g40 =>
      zgI 9 h0 3 fun g42 =>
      zif (g40 < g42) (
        zgR 9 h0 0 fun g51 =>
        zaI 50 g34 (0 : Int32) fun g56 =>
        zaR 60 g51 g56 fun g57 =>
        zgR 12 g57 0 fun g58 =>
        zaI 50 g58 (0 : Int32) fun g62 =>
        zaI 50 g34 (1 : Int32) fun g66 =>
        zif (g62 ≤ g66) (
          j78) (
          zaI 50 g34 (2 : Int32) fun g73 =>
          zif (g73 < g62) (
            r20 (p20l1 + (1 : Int32))) (
            j78))) (
        zrz (0 : Int32) k))
def f_X11_isWhole (h0 : Nat) (k : Int32 → ZM → Prop) : ZM → Prop :=
  zgR 9 h0 2 fun g1 =>
  zjn (
      zjn (
          zrz (0 : Int32) k) fun j78 =>
      zjn (
          zgI 9 h0 3 fun g87 =>
          zjn (fun (p98s0 : Int32) =>
              zrz p98s0 k) fun j98 =>
          zif (g87 ≤ 0) (
            j98 (0 : Int32)) (
            j98 (1 : Int32))) fun j86 =>
      f_X11_isWhole_L20 h0 k j78 j86 (0 : Int32)) fun j18 =>
  zif (g1 = 0) (
    znO 11 1 fun n8 =>
    zat 11 n8 <| zclv 1 3 (f_X15_init n8) <|
    zpR 9 h0 2 n8 <|
    j18) (
    j18)
def f_X10_book_L13 (h0 : Nat) (kx : Nat → ZM → Prop) (n0 : Nat) (j40 : ZM → Prop) : ZM → Prop :=
  zw0 fun r13 =>
    zat 8 h0 <| f_X10_peek h0 fun r14 =>
    zif (r14 = (59 : Int32)) (
      zgI 8 h0 0 fun g24 =>
      zpI 8 h0 0 (g24 + (1 : Int32)) <|
      zat 8 h0 <| zclvx' 64 440 (fun k9 kx9 => f_X10_clause h0 n0 kx9 k9) kx <|
      r13) (
      j40)
def f_X10_book (h0 : Nat) (kx : Nat → ZM → Prop) (k : Nat → ZM → Prop) : ZM → Prop :=
  znO 9 5 fun n0 =>
  zat 9 n0 <| zclv 2 23 (f_X11_init n0) <|
  zat 8 h0 <| zclvx' 64 440 (fun k9 kx9 => f_X10_clause h0 n0 kx9 k9) kx <|
  zjn (
      zat 8 h0 <| zclvx' 1 7 (fun k9 kx9 => f_X10_ends h0 kx9 k9) kx <|
      zat 9 n0 <| zcl 2 4 (f_X11_isWhole n0) fun r45 =>
      zif (r45 = 0) (
        znO 10 7 fun n51 =>
        zgI 8 h0 0 fun g56 =>
        zat 10 n51 <| f_X12_init n51 g56 <|
        zat 10 n51 (kx n51)) (
        k n0)) fun j40 =>
  f_X10_book_L13 h0 kx n0 j40
def f_X18_init (h0 : Nat) (k : ZM → Prop) : ZM → Prop :=
  zne h0 0 <|
  znA 62 (6 : Int32) fun n7 =>
  zpR 14 h0 0 n7 <|
  k
def f_X19_init (h0 : Nat) (k : ZM → Prop) : ZM → Prop :=
  zne h0 0 <|
  znA 63 (6 : Int32) fun n7 =>
  zpR 15 h0 0 n7 <|
  k
def f_X10_peekAt (h0 : Nat) (k : Int32 → ZM → Prop) : ZM → Prop :=
  zat 8 h0 <| f_X10_peek h0 fun r1 =>
  zgI 8 h0 0 fun g6 =>
  k g6
def f_X19_size (h0 : Nat) (k : Int32 → ZM → Prop) : ZM → Prop :=
  zgI 15 h0 1 fun g1 =>
  k g1
def f_X18_size_L4 (h0 : Nat) (k : Int32 → ZM → Prop) : Int32 → Int32 → ZM → Prop :=
  zw2 fun r4 p4l1 p4l2 =>
    zgI 14 h0 1 fun g6 =>
    zif (g6 ≤ p4l2) (
      k p4l1) (
      zgR 14 h0 0 fun g14 =>
      zaR 62 g14 p4l2 fun g18 =>
      zat 15 g18 <| f_X19_size g18 fun r19 =>
      r4 (p4l1 + r19) (p4l2 + (1 : Int32)))
def f_X18_size (h0 : Nat) (k : Int32 → ZM → Prop) : ZM → Prop :=
  f_X18_size_L4 h0 k (0 : Int32) (0 : Int32)
def f_X20_of (x0 : Int32) (k : Nat → ZM → Prop) : ZM → Prop :=
  zsw x0 60 [
    zgE 1 fun g36 =>
    k g36,
    zgE 0 fun g32 =>
    k g32,
    zgE 2 fun g40 =>
    k g40,
    zgE 3 fun g44 =>
    k g44] (
    k 0)
def f_X21_init (h0 : Nat) (x1 : Int32) (h2 : Nat) (x3 : Int32) (k : ZM → Prop) : ZM → Prop :=
  zne h0 0 <|
  zpI 16 h0 0 x1 <|
  zpR 16 h0 2 h2 <|
  zpI 16 h0 1 x3 <|
  k
def f_X10_unit (h0 : Nat) (h1 : Nat) (h2 : Nat) (kx : Nat → ZM → Prop) (k : ZM → Prop) : ZM → Prop :=
  zat 8 h0 <| f_X10_peek h0 fun r1 =>
  zjn (fun (p32s1 : Int32) =>
      zat 8 h0 <| zclx' 1 7 (fun k9 kx9 => f_X10_take h0 p32s1 kx9 k9) kx fun r32 =>
      zat 8 h0 <| f_X10_peek h0 fun r41 =>
      f_X20_of r41 fun r44 =>
      zjn (fun (p60s1 : Int32) =>
          zat 8 h0 <| zclx' 1 7 (fun k9 kx9 => f_X10_take h0 p60s1 kx9 k9) kx fun r60 =>
          zgR 15 h2 0 fun g65 =>
          zgI 15 h2 1 fun g69 =>
          znO 16 3 fun n72 =>
          zjn (fun (g82 : Int32) =>
              zjn (fun (p98s6 : Int32) =>
                  zat 16 n72 <| f_X21_init n72 (r32 - (97 : Int32)) r44 p98s6 <|
                  zbR 63 16 g65 g69 n72 <|
                  zgI 15 h2 1 fun g104 =>
                  zpI 15 h2 1 (g104 + (1 : Int32)) <|
                  k) fun j98 =>
              zif (g82 = (3 : Int32)) (
                j98 (0 : Int32)) (
                zat 8 h0 <| zclx' 8 56 (fun k9 kx9 => f_X10_number h0 (2 : Int32) kx9 k9) kx fun r95 =>
                j98 r95)) fun j82g =>
          zor (zis r44 0 (j82g 0)) (zor (zis r44 1 (j82g 1)) (zor (zis r44 2 (j82g 2)) (zis r44 3 (j82g 3))))) fun j60 =>
      zif (r44 = 0) (
        j60 (0 : Int32)) (
        j60 (1 : Int32))) fun j32 =>
  zjn (
      j32 (0 : Int32)) fun j31 =>
  zjn (
      zat 14 h1 <| f_X18_size h1 fun r19 =>
      zif ((6 : Int32) ≤ r19) (
        j31) (
        j32 (1 : Int32))) fun j18 =>
  zif (r1 = (97 : Int32)) (
    j18) (
    zif (r1 = (98 : Int32)) (
      j18) (
      j31))
def f_X10_where_L69 (h0 : Nat) (kx : Nat → ZM → Prop) (n0 : Nat) (n14 : Nat) (j97 : ZM → Prop) : ZM → Prop :=
  zw0 fun r69 =>
    zat 8 h0 <| f_X10_peek h0 fun r70 =>
    zif (r70 = (38 : Int32)) (
      zgI 8 h0 0 fun g80 =>
      zpI 8 h0 0 (g80 + (1 : Int32)) <|
      zat 8 h0 <| zclvx' 11 73 (fun k9 kx9 => f_X10_unit h0 n0 n14 kx9 k9) kx <|
      r69) (
      j97)
def f_X10_where_L10 (h0 : Nat) (kx : Nat → ZM → Prop) (n0 : Nat) (j129 : ZM → Prop) : Int32 → ZM → Prop :=
  zw1 fun r10 p10l2 =>
    zif (p10l2 = 0) (
      j129) (
      znO 15 2 fun n14 =>
      zat 15 n14 <| zclv 1 6 (f_X19_init n14) <|
      zgI 14 n0 1 fun g23 =>
      zif (g23 = (6 : Int32)) (
        znO 10 7 fun n31 =>
        zat 8 h0 <| f_X10_peekAt h0 fun r36 =>
        zat 10 n31 <| f_X12_init n31 r36 <|
        zat 10 n31 (kx n31)) (
        zgR 14 n0 0 fun g44 =>
        zgI 14 n0 1 fun g48 =>
        zbR 62 15 g44 g48 n14 <|
        zgI 14 n0 1 fun g55 =>
        zpI 14 n0 1 (g55 + (1 : Int32)) <|
        zat 8 h0 <| zclvx' 11 73 (fun k9 kx9 => f_X10_unit h0 n0 n14 kx9 k9) kx <|
        zjn (
            zat 8 h0 <| f_X10_peek h0 fun r98 =>
            zjn (fun (p111s0 : Int32) =>
                zjn (
                    r10 p111s0) fun j126 =>
                zif (p111s0 = 0) (
                  j126) (
                  zgI 8 h0 0 fun g118 =>
                  zpI 8 h0 0 (g118 + (1 : Int32)) <|
                  j126)) fun j111 =>
            zif (r98 = (124 : Int32)) (
              j111 (1 : Int32)) (
              j111 (0 : Int32))) fun j97 =>
        f_X10_where_L69 h0 kx n0 n14 j97))
def f_X10_where (h0 : Nat) (kx : Nat → ZM → Prop) (k : Nat → ZM → Prop) : ZM → Prop :=
  znO 14 2 fun n0 =>
  zat 14 n0 <| zclv 1 6 (f_X18_init n0) <|
  zjn (
      zat 8 h0 <| zclvx' 1 7 (fun k9 kx9 => f_X10_ends h0 kx9 k9) kx <|
      k n0) fun j129 =>
  f_X10_where_L10 h0 kx n0 j129 (1 : Int32)
def f_X1_fault (h0 : Nat) (x1 : Int32) (k : Int32 → ZM → Prop) : ZM → Prop :=
  f_X1_isIn x1.toInt64 (0 : Int64) (1 : Int64) fun r4 =>
  zif (r4 = 0) (
    k (-2 : Int32)) (
    znO 8 2 fun n13 =>
    zat 8 n13 <| f_X10_init n13 h0 <|
    zjn (
        k (-1 : Int32)) fun j45 =>
    zjn (fun (p47s0 : Nat) =>
        zgI 10 p47s0 6 fun g49 =>
        k g49) fun j47 =>
    zif (x1 = 0) (
      zat 8 n13 <| zclx' 16000 110000 (fun k9 kx9 => f_X10_book n13 kx9 k9) (fun (e28 : Nat) =>
            j47 e28) fun r28 =>
      zpR 1 h0 6 r28 <|
      j45) (
      zat 8 n13 <| zclx' 4000 25000 (fun k9 kx9 => f_X10_where n13 kx9 k9) (fun (e39 : Nat) =>
            j47 e39) fun r39 =>
      zpR 1 h0 7 r39 <|
      j45))
def f_X11_valuesOf (h0 : Nat) (x1 : Int32) (k : Int32 → ZM → Prop) : ZM → Prop :=
  zgR 9 h0 0 fun g1 =>
  zaR 60 g1 x1 fun g5 =>
  zgR 12 g5 0 fun g6 =>
  zaI 50 g6 (0 : Int32) fun g10 =>
  k g10
def f_X3_starts_L2 (h0 : Nat) (j22 : ZM → Prop) : Int32 → ZM → Prop :=
  zw1 fun r2 p2l2 =>
    zif ((289 : Int32) ≤ p2l2) (
      j22) (
      zgR 3 h0 0 fun g10 =>
      zbI 50 g10 p2l2 (0 : Int32) <|
      r2 (p2l2 + (1 : Int32)))
def f_X3_starts (h0 : Nat) (x1 : Int32) (k : ZM → Prop) : ZM → Prop :=
  zjn (
      zpI 3 h0 2 (0 : Int32) <|
      zpI 3 h0 3 x1 <|
      k) fun j22 =>
  f_X3_starts_L2 h0 j22 (0 : Int32)
def f_X3_place (h0 : Nat) (x1 : Int32) (x2 : Int32) (k : Int32 → ZM → Prop) : ZM → Prop :=
  zjn (fun (p13s1 : Int32) =>
      zjn (fun (p25s1 : Int32) =>
          k (((17 : Int32) * p13s1) + p25s1)) fun j25 =>
      zif (x2 = (-1 : Int32)) (
        j25 (16 : Int32)) (
        j25 x2)) fun j13 =>
  zif (x1 = (-1 : Int32)) (
    j13 (16 : Int32)) (
    j13 x1)
def f_X3_tells (h0 : Nat) (x1 : Int32) (x2 : Int32) (x3 : Int32) (k : ZM → Prop) : ZM → Prop :=
  zgR 3 h0 0 fun g1 =>
  zat 3 h0 <| f_X3_place h0 x1 x2 fun r7 =>
  zaI 50 g1 r7 fun g11 =>
  zbI 50 g1 r7 (g11 + x3) <|
  zgI 3 h0 2 fun g17 =>
  zpI 3 h0 2 (g17 + x3) <|
  k
def f_X3_alike (h0 : Nat) (x1 : Int32) (x2 : Int32) (k : Int32 → ZM → Prop) : ZM → Prop :=
  zgR 3 h0 0 fun g1 =>
  zat 3 h0 <| f_X3_place h0 x1 x2 fun r7 =>
  zaI 50 g1 r7 fun g10 =>
  k g10
def f_X3_count_L5 (h0 : Nat) (x1 : Int32) (x2 : Int32) (k : Int32 → ZM → Prop) : Int32 → Int32 → ZM → Prop :=
  zw2 fun r5 p5l3 p5l4 =>
    zgI 3 h0 3 fun g8 =>
    zif (g8 ≤ p5l4) (
      k p5l3) (
      zjn (fun (p36s1 : Int32) =>
          r5 (p5l3 + p36s1) (p5l4 + (1 : Int32))) fun j36 =>
      zif (x1 = 0) (
        zat 3 h0 <| f_X3_alike h0 x2 p5l4 fun r23 =>
        j36 r23) (
        zat 3 h0 <| f_X3_alike h0 p5l4 x2 fun r33 =>
        j36 r33))
def f_X3_count (h0 : Nat) (x1 : Int32) (x2 : Int32) (k : Int32 → ZM → Prop) : ZM → Prop :=
  f_X3_count_L5 h0 x1 x2 k (0 : Int32) (-1 : Int32)
def f_X1_counts_L2 (h0 : Nat) (h1 : Nat) (x2 : Int32) (k : ZM → Prop) : Int32 → ZM → Prop :=
  zw1 fun r2 p2l3 =>
    zgI 3 h1 3 fun g4 =>
    zif (g4 ≤ p2l3) (
      k) (
      zgR 1 h0 8 fun g11 =>
      zat 3 h1 <| f_X3_count h1 x2 p2l3 fun r18 =>
      zbI 50 g11 p2l3 r18 <|
      zgR 1 h0 9 fun g23 =>
      zgR 1 h0 9 fun g30 =>
      zaI 50 g30 p2l3 fun g34 =>
      zgR 1 h0 8 fun g36 =>
      zaI 50 g36 p2l3 fun g40 =>
      zbI 50 g23 (p2l3 + (1 : Int32)) (g34 + g40) <|
      zgR 1 h0 10 fun g44 =>
      zgR 1 h0 10 fun g51 =>
      zaI 50 g51 p2l3 fun g55 =>
      zgR 1 h0 8 fun g57 =>
      zaI 50 g57 p2l3 fun g61 =>
      zgR 1 h0 8 fun g63 =>
      zaI 50 g63 p2l3 fun g67 =>
      zbI 50 g44 (p2l3 + (1 : Int32)) (g55 + (g61 * g67)) <|
      r2 (p2l3 + (1 : Int32)))
def f_X1_counts (h0 : Nat) (h1 : Nat) (x2 : Int32) (k : ZM → Prop) : ZM → Prop :=
  f_X1_counts_L2 h0 h1 x2 k (0 : Int32)
def f_X1_errorOf (h0 : Nat) (x1 : Int32) (x2 : Int32) (k : Int64 → ZM → Prop) : ZM → Prop :=
  zgR 1 h0 9 fun g1 =>
  zaI 50 g1 x2 fun g5 =>
  zgR 1 h0 9 fun g7 =>
  zaI 50 g7 x1 fun g11 =>
  zgR 1 h0 10 fun g19 =>
  zaI 50 g19 x2 fun g23 =>
  zgR 1 h0 10 fun g25 =>
  zaI 50 g25 x1 fun g29 =>
  zne ((x2 - x1).toInt64) 0 <|
  znm ((((720720 : Int64) / (x2 - x1).toInt64) * (g5 - g11).toInt64) * (g5 - g11).toInt64) fun v44 =>
  k (((720720 : Int64) * (g23 - g29).toInt64) - v44)
def f_X1_tries_L28 (h0 : Nat) (x1 : Int32) (x2 : Int32) (x3 : Int32) (j134 : ZM → Prop) (j125 : ZM → Prop) : Int32 → ZM → Prop :=
  zw1 fun r28 p28l4 =>
    zif (x3 < p28l4) (
      j134) (
      zat 1 h0 <| f_X1_errorOf h0 x2 p28l4 fun r38 =>
      zgI 1 h0 13 fun g45 =>
      zpI 1 h0 13 (g45 + (1 : Int32)) <|
      zgR 1 h0 11 fun g56 =>
      zaR 54 g56 (x1 - (1 : Int32)) fun g62 =>
      zaL 51 g62 p28l4 fun g65 =>
      zgR 1 h0 11 fun g68 =>
      zaR 54 g68 x1 fun g72 =>
      zaL 51 g72 x2 fun g74 =>
      zjn (
          zgR 1 h0 11 fun g114 =>
          zaR 54 g114 x1 fun g118 =>
          zaL 51 g118 x2 fun g120 =>
          zif ((lg_cmp r38 g120) < 0) (
            r28 (p28l4 + (1 : Int32))) (
            j125)) fun j111 =>
      zif (0 ≤ (lg_cmp (r38 + g65) g74)) (
        j111) (
        zgR 1 h0 11 fun g80 =>
        zaR 54 g80 x1 fun g84 =>
        zgR 1 h0 11 fun g89 =>
        zaR 54 g89 (x1 - (1 : Int32)) fun g95 =>
        zaL 51 g95 p28l4 fun g98 =>
        zbL 51 g84 x2 (r38 + g98) <|
        zgR 1 h0 12 fun g102 =>
        zaR 55 g102 x1 fun g106 =>
        zbI 50 g106 x2 p28l4 <|
        j111))
def f_X1_tries (h0 : Nat) (x1 : Int32) (x2 : Int32) (x3 : Int32) (k : ZM → Prop) : ZM → Prop :=
  zgI 1 h0 14 fun g2 =>
  zpI 1 h0 14 (g2 + (x3 - x2)) <|
  zgR 1 h0 11 fun g13 =>
  zaR 54 g13 x1 fun g17 =>
  zbL 51 g17 x2 (9223372036854775807 : Int64) <|
  zjn (
      k) fun j134 =>
  zjn (
      j134) fun j125 =>
  f_X1_tries_L28 h0 x1 x2 x3 j134 j125 (x2 + (1 : Int32))
def f_X1_lays_L98 (h0 : Nat) (g7 : Int32) (j129 : Int32 → ZM → Prop) : Int32 → Int32 → ZM → Prop :=
  zw2 fun r98 p98l5 p98l6 =>
    zif ((g7 - p98l5) < p98l6) (
      j129 p98l5) (
      zat 1 h0 <| f_X1_tries h0 p98l5 p98l6 ((g7 - p98l5) + (1 : Int32)) <|
      r98 p98l5 (p98l6 + (1 : Int32)))
def f_X1_lays_L89 (h0 : Nat) (x3 : Int32) (k : ZM → Prop) (g7 : Int32) : Int32 → ZM → Prop :=
  zw1 fun r89 p89l5 =>
    zif (x3 < p89l5) (
      k) (
      zjn (fun (p129l5 : Int32) =>
          r89 (p129l5 + (1 : Int32))) fun j129 =>
      f_X1_lays_L98 h0 g7 j129 p89l5 (0 : Int32))
def f_X1_lays_L25 (h0 : Nat) (g7 : Int32) (j86 : ZM → Prop) : Int32 → ZM → Prop :=
  zw1 fun r25 p25l5 =>
    zif (g7 ≤ p25l5) (
      j86) (
      zgR 1 h0 11 fun g33 =>
      zaR 54 g33 (1 : Int32) fun g37 =>
      zat 1 h0 <| f_X1_errorOf h0 p25l5 g7 fun r45 =>
      zbL 51 g37 p25l5 r45 <|
      zgR 1 h0 12 fun g50 =>
      zaR 55 g50 (1 : Int32) fun g54 =>
      zbI 50 g54 p25l5 g7 <|
      zgI 1 h0 13 fun g62 =>
      zpI 1 h0 13 (g62 + (1 : Int32)) <|
      zgI 1 h0 14 fun g72 =>
      zpI 1 h0 14 (g72 + (1 : Int32)) <|
      r25 (p25l5 + (1 : Int32)))
def f_X1_lays (h0 : Nat) (h1 : Nat) (x2 : Int32) (x3 : Int32) (k : ZM → Prop) : ZM → Prop :=
  zat 1 h0 <| f_X1_counts h0 h1 x2 <|
  zgI 3 h1 3 fun g7 =>
  zpI 1 h0 13 (0 : Int32) <|
  zpI 1 h0 14 (0 : Int32) <|
  zjn (
      f_X1_lays_L89 h0 x3 k g7 (2 : Int32)) fun j86 =>
  f_X1_lays_L25 h0 g7 j86 (0 : Int32)
def f_X3_builds_L109 (h0 : Nat) (g58 : Nat) (j168 : Int32 → ZM → Prop) : Int32 → Int32 → ZM → Prop :=
  zw2 fun r109 p109l5 p109l7 =>
    zgI 5 g58 1 fun g113 =>
    zif (g113 < p109l7) (
      j168 p109l5) (
      zgI 5 g58 2 fun g122 =>
      zgR 3 h0 4 fun g126 =>
      zgR 1 g126 8 fun g129 =>
      zaI 50 g129 p109l7 fun g134 =>
      zpI 5 g58 2 (g122 + g134) <|
      zgI 5 g58 3 fun g143 =>
      zgR 3 h0 4 fun g147 =>
      zgR 1 g147 8 fun g150 =>
      zaI 50 g150 p109l7 fun g155 =>
      zpI 5 g58 3 (if g143 < g155 then g155 else g143) <|
      r109 p109l5 (p109l7 + (1 : Int32)))
def f_X3_builds_L46 (h0 : Nat) (g5 : Nat) (g8 : Int32) (g25 : Int32) (j183 : ZM → Prop) : Int32 → Int32 → ZM → Prop :=
  zw2 fun r46 p46l4 p46l5 =>
    zif ((if g25 < g8 then g25 else g8) ≤ p46l5) (
      j183) (
      zgR 4 g5 0 fun g53 =>
      zaR 58 g53 p46l5 fun g58 =>
      zpI 5 g58 0 p46l4 <|
      zgR 3 h0 4 fun g71 =>
      zgR 1 g71 12 fun g74 =>
      zaR 55 g74 ((if g25 < g8 then g25 else g8) - p46l5) fun g81 =>
      zaI 50 g81 p46l4 fun g84 =>
      zpI 5 g58 1 (g84 - (1 : Int32)) <|
      zpI 5 g58 2 (0 : Int32) <|
      zpI 5 g58 3 (0 : Int32) <|
      zgI 5 g58 0 fun g104 =>
      zjn (fun (p168l5 : Int32) =>
          zgI 5 g58 1 fun g170 =>
          r46 (g170 + (1 : Int32)) (p168l5 + (1 : Int32))) fun j168 =>
      f_X3_builds_L109 h0 g58 j168 p46l5 g104)
def f_X3_builds (h0 : Nat) (x1 : Int32) (k : ZM → Prop) : ZM → Prop :=
  zgR 3 h0 1 fun g1 =>
  zaR 57 g1 x1 fun g5 =>
  zgI 3 h0 3 fun g8 =>
  zgR 3 h0 4 fun g12 =>
  zgR 1 g12 5 fun g15 =>
  zgR 9 g15 2 fun g18 =>
  zgR 11 g18 0 fun g21 =>
  zaI 50 g21 (0 : Int32) fun g25 =>
  zgR 3 h0 4 fun g31 =>
  zat 1 g31 <| f_X1_lays g31 h0 x1 (if g25 < g8 then g25 else g8) <|
  zjn (
      zpI 4 g5 1 (if g25 < g8 then g25 else g8) <|
      zpI 4 g5 2 (0 : Int32) <|
      k) fun j183 =>
  f_X3_builds_L46 h0 g5 g8 g25 j183 (0 : Int32) (0 : Int32)
def f_X2_starts_L118 (h0 : Nat) (j139 : Int32 → ZM → Prop) : Int32 → Int32 → ZM → Prop :=
  zw2 fun r118 p118l1 p118l2 =>
    zif ((2 : Int32) ≤ p118l2) (
      j139 p118l1) (
      zgR 2 h0 0 fun g124 =>
      zaR 56 g124 p118l1 fun g128 =>
      zat 3 g128 <| f_X3_builds g128 p118l2 <|
      r118 p118l1 (p118l2 + (1 : Int32)))
def f_X2_starts_L102 (h0 : Nat) (j145 : ZM → Prop) : Int32 → ZM → Prop :=
  zw1 fun r102 p102l1 =>
    zgR 2 h0 4 fun g104 =>
    zgR 1 g104 5 fun g107 =>
    zgI 9 g107 3 fun g110 =>
    zif (g110 ≤ p102l1) (
      j145) (
      zjn (fun (p139l1 : Int32) =>
          r102 (p139l1 + (1 : Int32))) fun j139 =>
      f_X2_starts_L118 h0 j139 p102l1 (0 : Int32))
def f_X2_starts_L44 (h0 : Nat) (j100 : ZM → Prop) : Int32 → ZM → Prop :=
  zw1 fun r44 p44l1 =>
    zgR 2 h0 4 fun g46 =>
    zgR 1 g46 5 fun g49 =>
    zgI 9 g49 4 fun g52 =>
    zif (g52 ≤ p44l1) (
      j100) (
      zgR 2 h0 4 fun g59 =>
      zgR 1 g59 5 fun g62 =>
      zgR 9 g62 1 fun g65 =>
      zaR 61 g65 p44l1 fun g69 =>
      zgR 13 g69 0 fun g70 =>
      zgR 2 h0 0 fun g75 =>
      zaI 50 g70 (0 : Int32) fun g80 =>
      zaR 56 g75 g80 fun g81 =>
      zaI 50 g70 (1 : Int32) fun g84 =>
      zaI 50 g70 (2 : Int32) fun g87 =>
      zaI 50 g70 (3 : Int32) fun g90 =>
      zat 3 g81 <| f_X3_tells g81 g84 g87 g90 <|
      r44 (p44l1 + (1 : Int32)))
def f_X2_starts_L2 (h0 : Nat) (j42 : ZM → Prop) : Int32 → ZM → Prop :=
  zw1 fun r2 p2l1 =>
    zgR 2 h0 4 fun g4 =>
    zgR 1 g4 5 fun g7 =>
    zgI 9 g7 3 fun g10 =>
    zif (g10 ≤ p2l1) (
      j42) (
      zgR 2 h0 0 fun g17 =>
      zaR 56 g17 p2l1 fun g21 =>
      zgR 2 h0 4 fun g23 =>
      zgR 1 g23 5 fun g26 =>
      zat 9 g26 <| f_X11_valuesOf g26 p2l1 fun r30 =>
      zat 3 g21 <| f_X3_starts g21 r30 <|
      r2 (p2l1 + (1 : Int32)))
def f_X2_starts (h0 : Nat) (k : ZM → Prop) : ZM → Prop :=
  zjn (
      zjn (
          zjn (
              zgR 2 h0 4 fun g147 =>
              zgR 1 g147 5 fun g150 =>
              zgR 9 g150 2 fun g153 =>
              zgR 11 g153 0 fun g156 =>
              zaI 50 g156 (2 : Int32) fun g160 =>
              zpI 2 h0 2 g160 <|
              zpI 2 h0 3 (0 : Int32) <|
              k) fun j145 =>
          f_X2_starts_L102 h0 j145 (0 : Int32)) fun j100 =>
      f_X2_starts_L44 h0 j100 (0 : Int32)) fun j42 =>
  f_X2_starts_L2 h0 j42 (0 : Int32)
def f_X1_text (h0 : Nat) (x1 : Int32) (k : Int32 → ZM → Prop) : ZM → Prop :=
  f_X1_isIn x1.toInt64 (0 : Int64) (1 : Int64) fun r4 =>
  zjn (
      k (-1 : Int32)) fun j32 =>
  zif (r4 = 0) (
    j32) (
    zjn (
        zat 1 h0 <| zcl 16010 110010 (f_X1_fault h0 x1) fun r25 =>
        zif (r25 = (-1 : Int32)) (
          zpI 1 h0 1 (0 : Int32) <|
          zif (x1 = (1 : Int32)) (
            zgR 1 h0 2 fun g45 =>
            zgI 1 h0 4 fun g49 =>
            zgR 1 h0 7 fun g53 =>
            zbR 53 14 g45 g49 g53 <|
            zgI 1 h0 4 fun g59 =>
            zpI 1 h0 4 (g59 + (1 : Int32)) <|
            zgI 1 h0 4 fun g68 =>
            k (g68 - (1 : Int32))) (
            zgR 1 h0 6 fun g76 =>
            zpR 1 h0 5 g76 <|
            zgR 1 h0 15 fun g83 =>
            zat 2 g83 <| f_X2_starts g83 <|
            zpI 1 h0 19 (0 : Int32) <|
            zpZ 1 h0 28 (0 : Int32) <|
            zgR 1 h0 5 fun g100 =>
            zgI 9 g100 3 fun g103 =>
            k g103)) (
          j32)) fun j23 =>
    zif (x1 = (1 : Int32)) (
      zgI 1 h0 4 fun g16 =>
      zif (g16 = (4 : Int32)) (
        j32) (
        j23)) (
      j23))
def f_X21_isMissing (h0 : Nat) (k : Int32 → ZM → Prop) : ZM → Prop :=
  zgR 16 h0 2 fun g1 =>
  zjn (fun (g4 : Int32) =>
      zjn (fun (p16s0 : Int32) =>
          zrz p16s0 k) fun j16 =>
      zif (g4 = (3 : Int32)) (
        j16 (1 : Int32)) (
        j16 (0 : Int32))) fun j4g =>
  zor (zis g1 0 (j4g 0)) (zor (zis g1 1 (j4g 1)) (zor (zis g1 2 (j4g 2)) (zis g1 3 (j4g 3))))
def f_X21_told (h0 : Nat) (x1 : Int32) (k : Int32 → ZM → Prop) : ZM → Prop :=
  zjn (fun (p42s0 : Int32) =>
      k p42s0) fun j42 =>
  zif (x1 = (1 : Int32)) (
    zgI 16 h0 0 fun g6 =>
    j42 g6) (
    zif (x1 = (2 : Int32)) (
      zgR 16 h0 2 fun g18 =>
      zjn (fun (g21 : Int32) =>
          j42 g21) fun j21g =>
      zor (zis g18 0 (j21g 0)) (zor (zis g18 1 (j21g 1)) (zor (zis g18 2 (j21g 2)) (zis g18 3 (j21g 3))))) (
      zat 16 h0 <| f_X21_isMissing h0 fun r28 =>
      zif (r28 = 0) (
        zgI 16 h0 1 fun g39 =>
        j42 g39) (
        j42 (-1 : Int32))))
def f_X1_unit_L45 (g36 : Nat) (j76 : Int32 → Int32 → ZM → Prop) (j126 : ZM → Prop) : Int32 → Int32 → ZM → Prop :=
  zw2 fun r45 p45l5 p45l6 =>
    zgI 14 g36 1 fun g49 =>
    zif (g49 ≤ p45l6) (
      j126) (
      zif (p45l5 < 0) (
        j126) (
        zgR 14 g36 0 fun g64 =>
        zaR 62 g64 p45l6 fun g69 =>
        zgI 15 g69 1 fun g70 =>
        zif (g70 ≤ p45l5) (
          zgR 14 g36 0 fun g108 =>
          zaR 62 g108 p45l6 fun g113 =>
          zgI 15 g113 1 fun g114 =>
          r45 (p45l5 - g114) (p45l6 + (1 : Int32))) (
          j76 p45l5 p45l6)))
def f_X1_unit (h0 : Nat) (x1 : Int32) (x2 : Int32) (x3 : Int32) (k : Int32 → ZM → Prop) : ZM → Prop :=
  zgI 1 h0 4 fun g4 =>
  f_X1_isIn x1.toInt64 (0 : Int64) ((g4 - (1 : Int32)).toInt64) fun r10 =>
  zjn (
      k (-1000000 : Int32)) fun j28 =>
  zif (r10 = 0) (
    j28) (
    f_X1_isIn x3.toInt64 (0 : Int64) (3 : Int64) fun r22 =>
    zif (r22 = 0) (
      j28) (
      zgR 1 h0 2 fun g32 =>
      zaR 53 g32 x1 fun g36 =>
      zjn (fun (p76l5 : Int32) (p76l6 : Int32) =>
          zjn (fun (p103s0 : Int32) =>
              k p103s0) fun j103 =>
          zif (x3 = 0) (
            j103 p76l6) (
            zgR 14 g36 0 fun g87 =>
            zaR 62 g87 p76l6 fun g92 =>
            zgR 15 g92 0 fun g93 =>
            zaR 63 g93 p76l5 fun g98 =>
            zat 16 g98 <| f_X21_told g98 x3 fun r100 =>
            j103 r100)) fun j76 =>
      zjn (
          k (-1000000 : Int32)) fun j126 =>
      f_X1_unit_L45 g36 j76 j126 x2 (0 : Int32)))
def f_X1_rule (h0 : Nat) (x1 : Int32) (k : Int32 → ZM → Prop) : ZM → Prop :=
  zgR 1 h0 5 fun g1 =>
  zjn (
      k (-1 : Int32)) fun j19 =>
  zif (g1 = 0) (
    j19) (
    f_X1_isIn x1.toInt64 (0 : Int64) (2 : Int64) fun r13 =>
    zif (r13 = 0) (
      j19) (
      zjn (fun (p48s0 : Int32) =>
          k p48s0) fun j48 =>
      zif (x1 = (2 : Int32)) (
        zgR 1 h0 15 fun g27 =>
        zgI 2 g27 2 fun g30 =>
        j48 g30) (
        zgR 1 h0 5 fun g37 =>
        zgR 9 g37 2 fun g40 =>
        zgR 11 g40 0 fun g43 =>
        zaI 50 g43 x1 fun g47 =>
        j48 g47)))
def f_X1_isTable (h0 : Nat) (x1 : Int32) (k : Int32 → ZM → Prop) : ZM → Prop :=
  zgR 1 h0 5 fun g1 =>
  zjn (fun (p27s0 : Int32) =>
      zrz p27s0 k) fun j27 =>
  zjn (
      j27 (0 : Int32)) fun j26 =>
  zif (g1 = 0) (
    j26) (
    zif (x1 < 0) (
      j26) (
      zgR 1 h0 5 fun g13 =>
      zgI 9 g13 3 fun g16 =>
      zif (g16 ≤ x1) (
        j26) (
        j27 (1 : Int32))))
def f_X1_sheet (h0 : Nat) (x1 : Int32) (k : Nat → ZM → Prop) : ZM → Prop :=
  zgR 1 h0 15 fun g1 =>
  zgR 2 g1 0 fun g4 =>
  zaR 56 g4 x1 fun g8 =>
  k g8
def f_X3_isValue (h0 : Nat) (x1 : Int32) (k : Int32 → ZM → Prop) : ZM → Prop :=
  zjn (fun (p26s0 : Int32) =>
      zrz p26s0 k) fun j26 =>
  zjn (
      j26 (1 : Int32)) fun j21 =>
  zif (x1 = (-1 : Int32)) (
    j21) (
    zgI 3 h0 3 fun g9 =>
    f_X1_isIn x1.toInt64 (0 : Int64) ((g9 - (1 : Int32)).toInt64) fun r15 =>
    zif (r15 = 0) (
      j26 (0 : Int32)) (
      j21))
def f_X1_isPair (h0 : Nat) (x1 : Int32) (x2 : Int32) (x3 : Int32) (k : Int32 → ZM → Prop) : ZM → Prop :=
  zat 1 h0 <| f_X1_isTable h0 x1 fun r2 =>
  zjn (fun (p37s0 : Int32) =>
      zrz p37s0 k) fun j37 =>
  zjn (
      j37 (0 : Int32)) fun j36 =>
  zif (r2 = 0) (
    j36) (
    zat 1 h0 <| f_X1_sheet h0 x1 fun r10 =>
    zat 3 r10 <| f_X3_isValue r10 x2 fun r14 =>
    zif (r14 = 0) (
      j36) (
      zat 1 h0 <| f_X1_sheet h0 x1 fun r22 =>
      zat 3 r22 <| f_X3_isValue r22 x3 fun r26 =>
      zif (r26 = 0) (
        j36) (
        j37 (1 : Int32))))
def f_X1_rows (h0 : Nat) (x1 : Int32) (x2 : Int32) (x3 : Int32) (k : Int32 → ZM → Prop) : ZM → Prop :=
  zat 1 h0 <| f_X1_isPair h0 x1 x2 x3 fun r4 =>
  zjn (fun (p24s0 : Int32) =>
      k p24s0) fun j24 =>
  zif (r4 = 0) (
    j24 (-1 : Int32)) (
    zat 1 h0 <| f_X1_sheet h0 x1 fun r12 =>
    zat 3 r12 <| f_X3_alike r12 x2 x3 fun r17 =>
    j24 r17)
def f_X1_isColumn (h0 : Nat) (x1 : Int32) (x2 : Int32) (k : Int32 → ZM → Prop) : ZM → Prop :=
  zat 1 h0 <| f_X1_isTable h0 x1 fun r2 =>
  zjn (fun (p23s0 : Int32) =>
      zrz p23s0 k) fun j23 =>
  zjn (
      j23 (0 : Int32)) fun j22 =>
  zif (r2 = 0) (
    j22) (
    f_X1_isIn x2.toInt64 (0 : Int64) (1 : Int64) fun r12 =>
    zif (r12 = 0) (
      j22) (
      j23 (1 : Int32)))
def f_X1_countOf (h0 : Nat) (x1 : Int32) (x2 : Int32) (x3 : Int32) (k : Int32 → ZM → Prop) : ZM → Prop :=
  zat 1 h0 <| f_X1_isColumn h0 x1 x2 fun r3 =>
  zjn (fun (p43s0 : Int32) =>
      k p43s0) fun j43 =>
  zjn (
      j43 (-1 : Int32)) fun j42 =>
  zif (r3 = 0) (
    j42) (
    zat 1 h0 <| f_X1_sheet h0 x1 fun r14 =>
    zgI 3 r14 3 fun g17 =>
    f_X1_isIn x3.toInt64 (0 : Int64) ((g17 - (1 : Int32)).toInt64) fun r23 =>
    zif (r23 = 0) (
      j42) (
      zat 1 h0 <| f_X1_sheet h0 x1 fun r31 =>
      zat 3 r31 <| f_X3_count r31 x2 x3 fun r36 =>
      j43 r36))
def f_X7_told (h0 : Nat) (x1 : Int32) (k : Int32 → ZM → Prop) : ZM → Prop :=
  zjn (fun (p39s0 : Int32) =>
      k p39s0) fun j39 =>
  zif (x1 = 0) (
    zgI 5 h0 0 fun g5 =>
    j39 g5) (
    zif (x1 = (1 : Int32)) (
      zgI 5 h0 1 fun g17 =>
      j39 g17) (
      zif (x1 = (2 : Int32)) (
        zgI 5 h0 2 fun g29 =>
        j39 g29) (
        zgI 5 h0 3 fun g36 =>
        j39 g36)))
def f_X1_bucket (h0 : Nat) (x1 : Int32) (x2 : Int32) (x3 : Int32) (x4 : Int32) (k : Int32 → ZM → Prop) : ZM → Prop :=
  zat 1 h0 <| f_X1_isColumn h0 x1 x2 fun r3 =>
  zjn (
      k (-1000000 : Int32)) fun j47 =>
  zif (r3 = 0) (
    j47) (
    zat 1 h0 <| f_X1_sheet h0 x1 fun r14 =>
    zgR 3 r14 1 fun g17 =>
    zaR 57 g17 x2 fun g21 =>
    zgI 4 g21 1 fun g22 =>
    f_X1_isIn x3.toInt64 (0 : Int64) ((g22 - (1 : Int32)).toInt64) fun r28 =>
    zif (r28 = 0) (
      j47) (
      f_X1_isIn x4.toInt64 (0 : Int64) (3 : Int64) fun r41 =>
      zif (r41 = 0) (
        j47) (
        zat 1 h0 <| f_X1_sheet h0 x1 fun r52 =>
        zgR 3 r52 1 fun g55 =>
        zaR 57 g55 x2 fun g59 =>
        zgR 4 g59 0 fun g60 =>
        zaR 58 g60 x3 fun g64 =>
        zat 5 g64 <| f_X7_told g64 x4 fun r67 =>
        k r67)))
def f_X1_worst_L19 (h0 : Nat) (k : Int32 → ZM → Prop) (g11 : Nat) : Int32 → Int32 → ZM → Prop :=
  zw2 fun r19 p19l4 p19l5 =>
    zgI 4 g11 1 fun g22 =>
    zif (g22 ≤ p19l5) (
      k p19l4) (
      zgR 4 g11 0 fun g30 =>
      zaR 58 g30 p19l5 fun g35 =>
      zgI 5 g35 0 fun g36 =>
      zgR 4 g11 0 fun g40 =>
      zaR 58 g40 p19l5 fun g45 =>
      zgI 5 g45 1 fun g46 =>
      zat 1 h0 <| f_X1_errorOf h0 g36 (g46 + (1 : Int32)) fun r51 =>
      zgR 4 g11 0 fun g56 =>
      zaR 58 g56 p19l4 fun g61 =>
      zgI 5 g61 0 fun g62 =>
      zgR 4 g11 0 fun g66 =>
      zaR 58 g66 p19l4 fun g71 =>
      zgI 5 g71 1 fun g72 =>
      zat 1 h0 <| f_X1_errorOf h0 g62 (g72 + (1 : Int32)) fun r77 =>
      zjn (fun (p88l4 : Int32) =>
          r19 p88l4 (p19l5 + (1 : Int32))) fun j88 =>
      zif ((lg_cmp r51 r77) ≤ 0) (
        j88 p19l4) (
        j88 p19l5))
def f_X1_worst (h0 : Nat) (h1 : Nat) (x2 : Int32) (k : Int32 → ZM → Prop) : ZM → Prop :=
  zat 1 h0 <| f_X1_counts h0 h1 x2 <|
  zgR 3 h1 1 fun g7 =>
  zaR 57 g7 x2 fun g11 =>
  f_X1_worst_L19 h0 k g11 (0 : Int32) (1 : Int32)
def f_X1_column (h0 : Nat) (x1 : Int32) (x2 : Int32) (x3 : Int32) (k : Int32 → ZM → Prop) : ZM → Prop :=
  zat 1 h0 <| f_X1_isColumn h0 x1 x2 fun r3 =>
  zif (r3 = 0) (
    k (-1 : Int32)) (
    zat 1 h0 <| f_X1_sheet h0 x1 fun r13 =>
    zgR 3 r13 1 fun g16 =>
    zaR 57 g16 x2 fun g20 =>
    zsw x3 0 [
      zgI 4 g20 1 fun g58 =>
      k g58,
      zgI 4 g20 2 fun g64 =>
      k g64,
      zat 1 h0 <| f_X1_sheet h0 x1 fun r71 =>
      zat 1 h0 <| f_X1_worst h0 r71 x2 fun r75 =>
      k r75,
      zgR 1 h0 5 fun g80 =>
      zgR 9 g80 2 fun g83 =>
      zgR 11 g83 0 fun g86 =>
      zaI 50 g86 (1 : Int32) fun g90 =>
      zgI 4 g20 2 fun g93 =>
      k (g90 - g93)] (
      k (-1 : Int32)))
def f_X1_isSplit (h0 : Nat) (x1 : Int32) (x2 : Int32) (x3 : Int32) (k : Int32 → ZM → Prop) : ZM → Prop :=
  zat 1 h0 <| f_X1_isColumn h0 x1 x2 fun r3 =>
  zjn (fun (p32s0 : Int32) =>
      zrz p32s0 k) fun j32 =>
  zjn (
      j32 (0 : Int32)) fun j31 =>
  zif (r3 = 0) (
    j31) (
    zat 1 h0 <| f_X1_sheet h0 x1 fun r14 =>
    zgI 3 r14 3 fun g17 =>
    f_X1_isIn x3.toInt64 (1 : Int64) g17.toInt64 fun r21 =>
    zif (r21 = 0) (
      j31) (
      j32 (1 : Int32)))
def f_X1_error (h0 : Nat) (x1 : Int32) (x2 : Int32) (x3 : Int32) (k : Int64 → ZM → Prop) : ZM → Prop :=
  zat 1 h0 <| f_X1_isSplit h0 x1 x2 x3 fun r4 =>
  zif (r4 = 0) (
    k (-1 : Int64)) (
    zat 1 h0 <| f_X1_sheet h0 x1 fun r17 =>
    zat 1 h0 <| f_X1_lays h0 r17 x2 x3 <|
    zgR 1 h0 11 fun g26 =>
    zaR 54 g26 x3 fun g30 =>
    zaL 51 g30 (0 : Int32) fun g32 =>
    k g32)
def f_X1_border_L43 (h0 : Nat) (x3 : Int32) (x4 : Int32) (k : Int32 → ZM → Prop) : Int32 → Int32 → ZM → Prop :=
  zw2 fun r43 p43l5 p43l6 =>
    zif (x4 ≤ p43l6) (
      k p43l5) (
      zgR 1 h0 12 fun g51 =>
      zaR 55 g51 (x3 - p43l6) fun g58 =>
      zaI 50 g58 p43l5 fun g61 =>
      r43 g61 (p43l6 + (1 : Int32)))
def f_X1_border (h0 : Nat) (x1 : Int32) (x2 : Int32) (x3 : Int32) (x4 : Int32) (k : Int32 → ZM → Prop) : ZM → Prop :=
  zat 1 h0 <| f_X1_isSplit h0 x1 x2 x3 fun r4 =>
  zjn (
      k (-1 : Int32)) fun j24 =>
  zif (r4 = 0) (
    j24) (
    f_X1_isIn x4.toInt64 (0 : Int64) ((x3 - (1 : Int32)).toInt64) fun r18 =>
    zif (r18 = 0) (
      j24) (
      zat 1 h0 <| f_X1_sheet h0 x1 fun r29 =>
      zat 1 h0 <| f_X1_lays h0 r29 x2 x3 <|
      f_X1_border_L43 h0 x3 x4 k (0 : Int32) (0 : Int32)))
def f_X1_tried (h0 : Nat) (x1 : Int32) (x2 : Int32) (x3 : Int32) (x4 : Int32) (k : Int32 → ZM → Prop) : ZM → Prop :=
  zat 1 h0 <| f_X1_isSplit h0 x1 x2 x3 fun r4 =>
  zjn (
      k (-1 : Int32)) fun j21 =>
  zif (r4 = 0) (
    j21) (
    f_X1_isIn x4.toInt64 (0 : Int64) (1 : Int64) fun r15 =>
    zif (r15 = 0) (
      j21) (
      zat 1 h0 <| f_X1_sheet h0 x1 fun r26 =>
      zat 1 h0 <| f_X1_lays h0 r26 x2 x3 <|
      zjn (fun (p50s0 : Int32) =>
          k p50s0) fun j50 =>
      zif (x4 = 0) (
        zgI 1 h0 13 fun g40 =>
        j50 g40) (
        zgI 1 h0 14 fun g47 =>
        j50 g47)))
def f_X1_fewest_L42 (h0 : Nat) (x3 : Int64) (g22 : Int32) (j69 : Int32 → ZM → Prop) : Int32 → ZM → Prop :=
  zw1 fun r42 p42l6 =>
    zif (g22 ≤ p42l6) (
      j69 p42l6) (
      zgR 1 h0 11 fun g50 =>
      zaR 54 g50 p42l6 fun g55 =>
      zaL 51 g55 (0 : Int32) fun g57 =>
      zif ((lg_cmp g57 x3) ≤ 0) (
        j69 p42l6) (
        r42 (p42l6 + (1 : Int32))))
def f_X1_fewest (h0 : Nat) (x1 : Int32) (x2 : Int32) (x3 : Int64) (k : Int32 → ZM → Prop) : ZM → Prop :=
  zat 1 h0 <| f_X1_isColumn h0 x1 x2 fun r3 =>
  zjn (
      k (-1 : Int32)) fun j15 =>
  zif (r3 = 0) (
    j15) (
    zif (0 ≤ (lg_cmp x3 (0 : Int64))) (
      zat 1 h0 <| f_X1_sheet h0 x1 fun r19 =>
      zgI 3 r19 3 fun g22 =>
      zat 1 h0 <| f_X1_sheet h0 x1 fun r30 =>
      zat 1 h0 <| f_X1_lays h0 r30 x2 g22 <|
      zjn (fun (p69l6 : Int32) =>
          k p69l6) fun j69 =>
      f_X1_fewest_L42 h0 x3 g22 j69 (1 : Int32)) (
      j15))
def f_X1_stops (h0 : Nat) (x1 : Int32) (x2 : Int32) (x3 : Int32) (x4 : Int32) (x5 : Int32) (k : Int32 → ZM → Prop) : ZM → Prop :=
  zat 1 h0 <| f_X1_isPair h0 x1 x2 x3 fun r4 =>
  zif (r4 = 0) (
    k (0 : Int32)) (
    f_X1_isIn x4.toInt64 (1 : Int64) (99 : Int64) fun r19 =>
    zif (r19 = 0) (
      k (1 : Int32)) (
      zat 1 h0 <| f_X1_sheet h0 x1 fun r29 =>
      zjn (fun (p78s0 : Int32) =>
          k p78s0) fun j78 =>
      zif (x5 = 0) (
        zat 3 r29 <| f_X3_alike r29 x2 x3 fun r65 =>
        zif (x4 ≤ r65) (
          j78 (-1 : Int32)) (
          j78 (3 : Int32))) (
        zgI 3 r29 2 fun g41 =>
        zif ((g41 + x4) ≤ (999 : Int32)) (
          j78 (-1 : Int32)) (
          j78 (3 : Int32)))))
def f_X1_refuse (h0 : Nat) (x1 : Int32) (k : Int32 → ZM → Prop) : ZM → Prop :=
  zgR 1 h0 3 fun g1 =>
  zaI 50 g1 x1 fun g6 =>
  zbI 50 g1 x1 (g6 + (1 : Int32)) <|
  k (-1 : Int32)
def f_X7_becomes (h0 : Nat) (h1 : Nat) (k : ZM → Prop) : ZM → Prop :=
  zgI 5 h1 0 fun g2 =>
  zpI 5 h0 0 g2 <|
  zgI 5 h1 1 fun g10 =>
  zpI 5 h0 1 g10 <|
  zgI 5 h1 2 fun g18 =>
  zpI 5 h0 2 g18 <|
  zgI 5 h1 3 fun g26 =>
  zpI 5 h0 3 g26 <|
  k
def f_X4_becomes_L18 (h0 : Nat) (h1 : Nat) (k : ZM → Prop) : Int32 → ZM → Prop :=
  zw1 fun r18 p18l2 =>
    zgI 4 h1 1 fun g20 =>
    zif (g20 ≤ p18l2) (
      k) (
      zgR 4 h0 0 fun g27 =>
      zaR 58 g27 p18l2 fun g31 =>
      zgR 4 h1 0 fun g33 =>
      zaR 58 g33 p18l2 fun g37 =>
      zat 5 g31 <| f_X7_becomes g31 g37 <|
      r18 (p18l2 + (1 : Int32)))
def f_X4_becomes (h0 : Nat) (h1 : Nat) (k : ZM → Prop) : ZM → Prop :=
  zgI 4 h1 1 fun g2 =>
  zpI 4 h0 1 g2 <|
  zgI 4 h1 2 fun g10 =>
  zpI 4 h0 2 g10 <|
  f_X4_becomes_L18 h0 h1 k (0 : Int32)
def f_X3_becomes_L34 (h0 : Nat) (h1 : Nat) (k : ZM → Prop) : Int32 → ZM → Prop :=
  zw1 fun r34 p34l2 =>
    zif ((2 : Int32) ≤ p34l2) (
      k) (
      zgR 3 h0 1 fun g40 =>
      zaR 57 g40 p34l2 fun g44 =>
      zgR 3 h1 1 fun g46 =>
      zaR 57 g46 p34l2 fun g50 =>
      zat 4 g44 <| f_X4_becomes g44 g50 <|
      r34 (p34l2 + (1 : Int32)))
def f_X3_becomes (h0 : Nat) (h1 : Nat) (k : ZM → Prop) : ZM → Prop :=
  zgR 3 h1 0 fun g1 =>
  zgR 3 h0 0 fun g6 =>
  zcy g1 (0 : Int32) g6 (0 : Int32) (289 : Int32) <|
  zgI 3 h1 2 fun g18 =>
  zpI 3 h0 2 g18 <|
  zgI 3 h1 3 fun g26 =>
  zpI 3 h0 3 g26 <|
  f_X3_becomes_L34 h0 h1 k (0 : Int32)
def f_X2_becomes_L2 (h0 : Nat) (h1 : Nat) (j37 : ZM → Prop) : Int32 → ZM → Prop :=
  zw1 fun r2 p2l2 =>
    zgR 2 h0 4 fun g4 =>
    zgR 1 g4 5 fun g7 =>
    zgI 9 g7 3 fun g10 =>
    zif (g10 ≤ p2l2) (
      j37) (
      zgR 2 h0 0 fun g17 =>
      zaR 56 g17 p2l2 fun g21 =>
      zgR 2 h1 0 fun g23 =>
      zaR 56 g23 p2l2 fun g27 =>
      zat 3 g21 <| f_X3_becomes g21 g27 <|
      r2 (p2l2 + (1 : Int32)))
def f_X2_becomes (h0 : Nat) (h1 : Nat) (k : ZM → Prop) : ZM → Prop :=
  zjn (
      zgR 2 h1 1 fun g38 =>
      zgR 2 h0 1 fun g43 =>
      zgI 2 h1 3 fun g49 =>
      zcy g38 (0 : Int32) g43 (0 : Int32) ((3 : Int32) * g49) <|
      zgI 2 h1 2 fun g58 =>
      zpI 2 h0 2 g58 <|
      zgI 2 h1 3 fun g66 =>
      zpI 2 h0 3 g66 <|
      k) fun j37 =>
  f_X2_becomes_L2 h0 h1 j37 (0 : Int32)
def f_X1_remember (h0 : Nat) (k : ZM → Prop) : ZM → Prop :=
  zgR 1 h0 18 fun g1 =>
  zgI 1 h0 20 fun g5 =>
  zaR 59 g1 g5 fun g8 =>
  zjn (
      zgR 1 h0 18 fun g30 =>
      zgI 1 h0 20 fun g34 =>
      zaR 59 g30 g34 fun g37 =>
      zgR 1 h0 15 fun g39 =>
      zat 2 g37 <| f_X2_becomes g37 g39 <|
      zgI 1 h0 20 fun g47 =>
      zne (40 : Int32) 0 <|
      zpI 1 h0 20 ((g47 + (1 : Int32)) - (g47 + (1 : Int32)) / (40 : Int32) * (40 : Int32)) <|
      zgI 1 h0 19 fun g62 =>
      znm (if (g62 + (1 : Int32)) < (40 : Int32) then (g62 + (1 : Int32)) else (40 : Int32)) fun v67 =>
      zpI 1 h0 19 v67 <|
      k) fun j29 =>
  zif (g8 = 0) (
    zgR 1 h0 18 fun g13 =>
    zgI 1 h0 20 fun g17 =>
    znO 2 5 fun n20 =>
    zat 2 n20 <| zclv 71 1329 (f_X2_init n20 h0) <|
    zbR 59 2 g13 g17 n20 <|
    j29) (
    j29)
def f_X4_of_L2 (h0 : Nat) (x1 : Int32) (j21 : Int32 → ZM → Prop) : Int32 → ZM → Prop :=
  zw1 fun r2 p2l2 =>
    zgR 4 h0 0 fun g3 =>
    zaR 58 g3 p2l2 fun g7 =>
    zgI 5 g7 1 fun g8 =>
    zif (x1 ≤ g8) (
      j21 p2l2) (
      r2 (p2l2 + (1 : Int32)))
def f_X4_of (h0 : Nat) (x1 : Int32) (k : Nat → ZM → Prop) : ZM → Prop :=
  zjn (fun (p21l2 : Int32) =>
      zgR 4 h0 0 fun g22 =>
      zaR 58 g22 p21l2 fun g26 =>
      k g26) fun j21 =>
  f_X4_of_L2 h0 x1 j21 (0 : Int32)
def f_X6_goesUp (h0 : Nat) (x1 : Int32) (k : ZM → Prop) : ZM → Prop :=
  zgI 5 h0 2 fun g2 =>
  zpI 5 h0 2 (g2 + x1) <|
  zgI 5 h0 2 fun g12 =>
  zgI 5 h0 3 fun g16 =>
  zpI 5 h0 3 (if (g16 + x1) < g12 then (g16 + x1) else g12) <|
  k
def f_X6_goesDown (h0 : Nat) (x1 : Int32) (k : ZM → Prop) : ZM → Prop :=
  zgI 5 h0 2 fun g2 =>
  zpI 5 h0 2 (g2 - x1) <|
  zgI 5 h0 2 fun g12 =>
  zgI 5 h0 3 fun g16 =>
  zpI 5 h0 3 (if g16 < g12 then g16 else g12) <|
  k
def f_X3_comes_L99 (h0 : Nat) (k : ZM → Prop) : Int32 → ZM → Prop :=
  zw1 fun r99 p99l4 =>
    zif ((2 : Int32) ≤ p99l4) (
      k) (
      zgR 3 h0 1 fun g106 =>
      zaR 57 g106 p99l4 fun g111 =>
      zgI 4 g111 2 fun g112 =>
      zgR 3 h0 4 fun g116 =>
      zgR 1 g116 5 fun g119 =>
      zgR 9 g119 2 fun g122 =>
      zgR 11 g122 0 fun g125 =>
      zaI 50 g125 (1 : Int32) fun g129 =>
      zjn (
          r99 (p99l4 + (1 : Int32))) fun j139 =>
      zif (g112 ≤ g129) (
        j139) (
        zat 3 h0 <| f_X3_builds h0 p99l4 <|
        j139))
def f_X3_comes_L10 (h0 : Nat) (x1 : Int32) (x2 : Int32) (x3 : Int32) (j96 : ZM → Prop) : Int32 → ZM → Prop :=
  zw1 fun r10 p10l4 =>
    zif ((2 : Int32) ≤ p10l4) (
      j96) (
      zjn (fun (p26s0 : Int32) =>
          zjn (
              r10 (p10l4 + (1 : Int32))) fun j90 =>
          zif (p26s0 = (-1 : Int32)) (
            j90) (
            zgR 3 h0 1 fun g38 =>
            zaR 57 g38 p10l4 fun g43 =>
            zat 4 g43 <| f_X4_of g43 p26s0 fun r46 =>
            zjn (
                zgR 3 h0 1 fun g72 =>
                zaR 57 g72 p10l4 fun g77 =>
                zgI 4 g77 2 fun g79 =>
                zpI 4 g77 2 (g79 + (if 0 ≤ x3 then x3 else 0 - x3)) <|
                j90) fun j71 =>
            zif (x3 ≤ 0) (
              zat 5 r46 <| f_X6_goesDown r46 (-x3) <|
              j71) (
              zat 5 r46 <| f_X6_goesUp r46 x3 <|
              j71))) fun j26 =>
      zif (p10l4 = 0) (
        j26 x1) (
        j26 x2))
def f_X3_comes (h0 : Nat) (x1 : Int32) (x2 : Int32) (x3 : Int32) (k : ZM → Prop) : ZM → Prop :=
  zat 3 h0 <| f_X3_tells h0 x1 x2 x3 <|
  zjn (
      f_X3_comes_L99 h0 k (0 : Int32)) fun j96 =>
  f_X3_comes_L10 h0 x1 x2 x3 j96 (0 : Int32)
def f_X2_notes (h0 : Nat) (x1 : Int32) (x2 : Int32) (x3 : Int32) (k : ZM → Prop) : ZM → Prop :=
  zgI 2 h0 3 fun g1 =>
  zjn (
      zgR 2 h0 1 fun g36 =>
      zgI 2 h0 3 fun g41 =>
      zbI 50 g36 ((3 : Int32) * g41) x1 <|
      zgR 2 h0 1 fun g48 =>
      zgI 2 h0 3 fun g53 =>
      zbI 50 g48 (((3 : Int32) * g53) + (1 : Int32)) x2 <|
      zgR 2 h0 1 fun g62 =>
      zgI 2 h0 3 fun g67 =>
      zbI 50 g62 (((3 : Int32) * g67) + (2 : Int32)) x3 <|
      zgI 2 h0 3 fun g77 =>
      zpI 2 h0 3 (g77 + (1 : Int32)) <|
      k) fun j35 =>
  zif (g1 = (60 : Int32)) (
    zgR 2 h0 1 fun g10 =>
    zgR 2 h0 1 fun g15 =>
    zcy g10 (3 : Int32) g15 (0 : Int32) (177 : Int32) <|
    zgI 2 h0 3 fun g27 =>
    zpI 2 h0 3 (g27 - (1 : Int32)) <|
    j35) (
    j35)
def f_X1_comes (h0 : Nat) (x1 : Int32) (x2 : Int32) (x3 : Int32) (x4 : Int32) (x5 : Int32) (k : ZM → Prop) : ZM → Prop :=
  zat 1 h0 <| zclv 72 1334 (f_X1_remember h0) <|
  zat 1 h0 <| f_X1_sheet h0 x2 fun r6 =>
  zjn (fun (p24s3 : Int32) =>
      zat 3 r6 <| f_X3_comes r6 x3 x4 p24s3 <|
      zgR 1 h0 15 fun g28 =>
      zat 2 g28 <| f_X2_notes g28 x1 x2 x5 <|
      k) fun j24 =>
  zif (x1 = 0) (
    j24 x5) (
    j24 (-x5))
def f_X1_add (h0 : Nat) (x1 : Int32) (x2 : Int32) (x3 : Int32) (x4 : Int32) (k : Int32 → ZM → Prop) : ZM → Prop :=
  zat 1 h0 <| f_X1_stops h0 x1 x2 x3 x4 (1 : Int32) fun r7 =>
  zif (r7 = (-1 : Int32)) (
    zat 1 h0 <| zclv 72 1334 (f_X1_comes h0 (0 : Int32) x1 x2 x3 x4) <|
    zat 1 h0 <| f_X1_sheet h0 x1 fun r37 =>
    zgI 3 r37 2 fun g40 =>
    k g40) (
    zat 1 h0 <| f_X1_refuse h0 r7 fun r21 =>
    k r21)
def f_X1_drop (h0 : Nat) (x1 : Int32) (x2 : Int32) (x3 : Int32) (x4 : Int32) (k : Int32 → ZM → Prop) : ZM → Prop :=
  zat 1 h0 <| f_X1_stops h0 x1 x2 x3 x4 (0 : Int32) fun r7 =>
  zif (r7 = (-1 : Int32)) (
    zat 1 h0 <| zclv 72 1334 (f_X1_comes h0 (1 : Int32) x1 x2 x3 x4) <|
    zat 1 h0 <| f_X1_sheet h0 x1 fun r37 =>
    zgI 3 r37 2 fun g40 =>
    k g40) (
    zat 1 h0 <| f_X1_refuse h0 r7 fun r21 =>
    k r21)
def f_X1_move (h0 : Nat) (x1 : Int32) (x2 : Int32) (x3 : Int32) (x4 : Int32) (x5 : Int32) (k : Int32 → ZM → Prop) : ZM → Prop :=
  zat 1 h0 <| f_X1_isPair h0 x1 x2 x3 fun r4 =>
  zjn (
      zat 1 h0 <| f_X1_refuse h0 (0 : Int32) fun r24 =>
      k r24) fun j22 =>
  zif (r4 = 0) (
    j22) (
    zat 1 h0 <| f_X1_isPair h0 x1 x4 x5 fun r16 =>
    zif (r16 = 0) (
      j22) (
      zjn (
          zat 1 h0 <| f_X1_sheet h0 x1 fun r48 =>
          zat 3 r48 <| f_X3_alike r48 x2 x3 fun r57 =>
          zif (r57 = 0) (
            zat 1 h0 <| f_X1_refuse h0 (3 : Int32) fun r65 =>
            k r65) (
            zat 1 h0 <| zclv 72 1334 (f_X1_remember h0) <|
            zat 3 r48 <| f_X3_comes r48 x2 x3 (-1 : Int32) <|
            zat 3 r48 <| f_X3_comes r48 x4 x5 (1 : Int32) <|
            zgR 1 h0 15 fun g92 =>
            zat 2 g92 <| f_X2_notes g92 (2 : Int32) x1 (1 : Int32) <|
            zat 3 r48 <| f_X3_alike r48 x4 x5 fun r107 =>
            k r107)) fun j46 =>
      zif (x2 = x4) (
        zif (x3 = x5) (
          zat 1 h0 <| f_X1_refuse h0 (2 : Int32) fun r42 =>
          k r42) (
          j46)) (
        j46)))
def f_X1_buildsNow (h0 : Nat) (x1 : Int32) (x2 : Int32) (k : ZM → Prop) : ZM → Prop :=
  zat 1 h0 <| zclv 72 1334 (f_X1_remember h0) <|
  zat 1 h0 <| f_X1_sheet h0 x1 fun r6 =>
  zat 3 r6 <| f_X3_builds r6 x2 <|
  zgR 1 h0 15 fun g14 =>
  zat 2 g14 <| f_X2_notes g14 (3 : Int32) x1 x2 <|
  k
def f_X1_build (h0 : Nat) (x1 : Int32) (x2 : Int32) (k : Int32 → ZM → Prop) : ZM → Prop :=
  zat 1 h0 <| f_X1_isColumn h0 x1 x2 fun r3 =>
  zif (r3 = 0) (
    zat 1 h0 <| f_X1_refuse h0 (0 : Int32) fun r11 =>
    k r11) (
    zat 1 h0 <| f_X1_sheet h0 x1 fun r17 =>
    zgR 3 r17 1 fun g20 =>
    zaR 57 g20 x2 fun g24 =>
    zgI 4 g24 2 fun g25 =>
    zif (g25 = 0) (
      zat 1 h0 <| f_X1_refuse h0 (2 : Int32) fun r33 =>
      k r33) (
      zat 1 h0 <| zclv 72 1334 (f_X1_buildsNow h0 x1 x2) <|
      zat 1 h0 <| f_X1_sheet h0 x1 fun r45 =>
      zgR 3 r45 1 fun g48 =>
      zaR 57 g48 x2 fun g52 =>
      zgI 4 g52 1 fun g53 =>
      k g53))
def f_X1_budget (h0 : Nat) (x1 : Int32) (k : Int32 → ZM → Prop) : ZM → Prop :=
  zgR 1 h0 5 fun g1 =>
  zif (g1 = 0) (
    zat 1 h0 <| f_X1_refuse h0 (0 : Int32) fun r9 =>
    k r9) (
    f_X1_isIn x1.toInt64 (1 : Int64) (999 : Int64) fun r19 =>
    zif (r19 = 0) (
      zat 1 h0 <| f_X1_refuse h0 (1 : Int32) fun r27 =>
      k r27) (
      zgR 1 h0 15 fun g33 =>
      zgI 2 g33 2 fun g36 =>
      zif (x1 = g36) (
        zat 1 h0 <| f_X1_refuse h0 (2 : Int32) fun r44 =>
        k r44) (
        zgR 1 h0 15 fun g49 =>
        zgI 2 g49 2 fun g52 =>
        zat 1 h0 <| zclv 72 1334 (f_X1_remember h0) <|
        zgR 1 h0 15 fun g61 =>
        zpI 2 g61 2 x1 <|
        zgR 1 h0 15 fun g69 =>
        zat 2 g69 <| f_X2_notes g69 (4 : Int32) (-1 : Int32) x1 <|
        k g52)))
def f_X1_draw (h0 : Nat) (x1 : Int32) (k : Int32 → ZM → Prop) : ZM → Prop :=
  zgL 1 h0 21 fun g2 =>
  zpL 1 h0 21 ((g2 * (6364136223846793005 : Int64)) + (1442695040888963407 : Int64)) <|
  zgL 1 h0 21 fun g17 =>
  znm ((g17.toUInt64 >>> ((33 : Int32).toInt64.toUInt64 &&& Int64.toUInt64 63)).toInt64) fun v22 =>
  zne x1.toInt64 0 <|
  k ((v22 - v22 / x1.toInt64 * x1.toInt64).toInt32)
def f_X1_valueOf (x0 : Int32) (x1 : Int32) (k : Int32 → ZM → Prop) : ZM → Prop :=
  zjn (fun (p10s0 : Int32) =>
      k p10s0) fun j10 =>
  zif (x0 = x1) (
    j10 (-1 : Int32)) (
    j10 x0)
def f_X1_happens (h0 : Nat) (k : ZM → Prop) : ZM → Prop :=
  zat 1 h0 <| f_X1_draw h0 (4 : Int32) fun r2 =>
  zgR 1 h0 5 fun g8 =>
  zgI 9 g8 3 fun g11 =>
  zat 1 h0 <| f_X1_draw h0 g11 fun r14 =>
  zif (r2 = (3 : Int32)) (
    zat 1 h0 <| f_X1_draw h0 (2 : Int32) fun r25 =>
    zat 1 h0 <| f_X1_sheet h0 r14 fun r31 =>
    zgR 3 r31 1 fun g34 =>
    zaR 57 g34 r25 fun g38 =>
    zgI 4 g38 2 fun g39 =>
    zjn (
        k) fun j51 =>
    zif (g39 ≤ 0) (
      j51) (
      zat 1 h0 <| zclv 72 1334 (f_X1_buildsNow h0 r14 r25) <|
      j51)) (
    zat 1 h0 <| f_X1_sheet h0 r14 fun r54 =>
    zgI 3 r54 3 fun g57 =>
    zat 1 h0 <| f_X1_draw h0 (g57 + (1 : Int32)) fun r65 =>
    f_X1_valueOf r65 g57 fun r69 =>
    zat 1 h0 <| f_X1_draw h0 (g57 + (1 : Int32)) fun r78 =>
    f_X1_valueOf r78 g57 fun r82 =>
    zat 1 h0 <| f_X1_draw h0 (5 : Int32) fun r89 =>
    zjn (fun (p114s5 : Int32) =>
        zat 1 h0 <| f_X1_stops h0 r14 r69 r82 (r89 + (1 : Int32)) p114s5 fun r114 =>
        zjn (
            k) fun j142 =>
        zif (r114 = (-1 : Int32)) (
          zjn (fun (p132s1 : Int32) =>
              zat 1 h0 <| zclv 72 1334 (f_X1_comes h0 p132s1 r14 r69 r82 (r89 + (1 : Int32))) <|
              j142) fun j132 =>
          zif ((2 : Int32) ≤ r2) (
            j132 (1 : Int32)) (
            j132 (0 : Int32))) (
          j142)) fun j114 =>
    zif ((2 : Int32) ≤ r2) (
      j114 (0 : Int32)) (
      j114 (1 : Int32)))
def f_X2_rows_L4 (h0 : Nat) (k : Int32 → ZM → Prop) : Int32 → Int32 → ZM → Prop :=
  zw2 fun r4 p4l1 p4l2 =>
    zgR 2 h0 4 fun g6 =>
    zgR 1 g6 5 fun g9 =>
    zgI 9 g9 3 fun g12 =>
    zif (g12 ≤ p4l2) (
      k p4l1) (
      zgR 2 h0 0 fun g20 =>
      zaR 56 g20 p4l2 fun g24 =>
      zgI 3 g24 2 fun g25 =>
      r4 (p4l1 + g25) (p4l2 + (1 : Int32)))
def f_X2_rows (h0 : Nat) (k : Int32 → ZM → Prop) : ZM → Prop :=
  f_X2_rows_L4 h0 k (0 : Int32) (0 : Int32)
def f_X1_years_L29 (h0 : Nat) (x1 : Int32) (j45 : ZM → Prop) : Int32 → ZM → Prop :=
  zw1 fun r29 p29l4 =>
    zif (x1 ≤ p29l4) (
      j45) (
      zat 1 h0 <| zclv 72 1334 (f_X1_happens h0) <|
      r29 (p29l4 + (1 : Int32)))
def f_X1_years (h0 : Nat) (x1 : Int32) (x2 : Int64) (k : Int32 → ZM → Prop) : ZM → Prop :=
  zgR 1 h0 5 fun g1 =>
  zjn (
      k (-1 : Int32)) fun j19 =>
  zif (g1 = 0) (
    j19) (
    f_X1_isIn x1.toInt64 (1 : Int64) (40 : Int64) fun r13 =>
    zif (r13 = 0) (
      j19) (
      zpL 1 h0 21 x2 <|
      zjn (
          zgR 1 h0 15 fun g46 =>
          zat 2 g46 <| f_X2_rows g46 fun r49 =>
          k r49) fun j45 =>
      f_X1_years_L29 h0 x1 j45 (0 : Int32)))
def f_X1_status (h0 : Nat) (x1 : Int32) (k : Int32 → ZM → Prop) : ZM → Prop :=
  f_X1_isIn x1.toInt64 (0 : Int64) (4 : Int64) fun r6 =>
  zjn (fun (p22s0 : Int32) =>
      k p22s0) fun j22 =>
  zif (r6 = 0) (
    j22 (-1 : Int32)) (
    zgR 1 h0 3 fun g13 =>
    zaI 50 g13 x1 fun g17 =>
    j22 g17)
def f_X1_undo (h0 : Nat) (k : Int32 → ZM → Prop) : ZM → Prop :=
  zgI 1 h0 19 fun g1 =>
  zif (g1 = 0) (
    k (-1 : Int32)) (
    zgI 1 h0 19 fun g11 =>
    zpI 1 h0 19 (g11 - (1 : Int32)) <|
    zgI 1 h0 20 fun g21 =>
    zne (40 : Int32) 0 <|
    znm (((g21 + (40 : Int32)) - (1 : Int32)) - ((g21 + (40 : Int32)) - (1 : Int32)) / (40 : Int32) * (40 : Int32)) fun v31 =>
    zpI 1 h0 20 v31 <|
    zgR 1 h0 15 fun g36 =>
    zgR 1 h0 18 fun g40 =>
    zgI 1 h0 20 fun g44 =>
    zaR 59 g40 g44 fun g47 =>
    zat 2 g36 <| f_X2_becomes g36 g47 <|
    zgI 1 h0 19 fun g52 =>
    k g52)
def f_X1_log (h0 : Nat) (x1 : Int32) (x2 : Int32) (k : Int32 → ZM → Prop) : ZM → Prop :=
  zgR 1 h0 5 fun g1 =>
  zjn (
      k (-1000000 : Int32)) fun j38 =>
  zif (g1 = 0) (
    j38) (
    zgR 1 h0 15 fun g11 =>
    zgI 2 g11 3 fun g14 =>
    f_X1_isIn x1.toInt64 (0 : Int64) ((g14 - (1 : Int32)).toInt64) fun r20 =>
    zif (r20 = 0) (
      j38) (
      f_X1_isIn x2.toInt64 (0 : Int64) (2 : Int64) fun r32 =>
      zif (r32 = 0) (
        j38) (
        zgR 1 h0 15 fun g42 =>
        zgR 2 g42 1 fun g45 =>
        zgR 1 h0 15 fun g50 =>
        zgI 2 g50 3 fun g53 =>
        zaI 50 g45 (((3 : Int32) * ((g53 - (1 : Int32)) - x1)) + x2) fun g63 =>
        k g63)))
def f_X1_isWhere (h0 : Nat) (x1 : Int32) (k : Int32 → ZM → Prop) : ZM → Prop :=
  zgI 1 h0 4 fun g4 =>
  f_X1_isIn x1.toInt64 (0 : Int64) ((g4 - (1 : Int32)).toInt64) fun r10 =>
  zrz r10 k
def f_X3_missing (h0 : Nat) (x1 : Int32) (k : Int32 → ZM → Prop) : ZM → Prop :=
  zat 3 h0 <| f_X3_count h0 x1 (-1 : Int32) fun r3 =>
  k r3
def f_X23_holds (h0 : Nat) (x1 : Int32) (x2 : Int32) (k : Int32 → ZM → Prop) : ZM → Prop :=
  zjn (fun (p10s0 : Int32) =>
      zrz p10s0 k) fun j10 =>
  zif (x1 = x2) (
    j10 (1 : Int32)) (
    j10 (0 : Int32))
def f_X24_holds (h0 : Nat) (x1 : Int32) (x2 : Int32) (k : Int32 → ZM → Prop) : ZM → Prop :=
  zjn (fun (p15s0 : Int32) =>
      zrz p15s0 k) fun j15 =>
  zjn (
      j15 (0 : Int32)) fun j14 =>
  zif (x1 = (-1 : Int32)) (
    j14) (
    zif (x2 ≤ x1) (
      j14) (
      j15 (1 : Int32)))
def f_X25_holds (h0 : Nat) (x1 : Int32) (x2 : Int32) (k : Int32 → ZM → Prop) : ZM → Prop :=
  zjn (fun (p10s0 : Int32) =>
      zrz p10s0 k) fun j10 =>
  zif (x1 ≤ x2) (
    j10 (0 : Int32)) (
    j10 (1 : Int32))
def f_X26_holds (h0 : Nat) (x1 : Int32) (x2 : Int32) (k : Int32 → ZM → Prop) : ZM → Prop :=
  zjn (fun (p10s0 : Int32) =>
      zrz p10s0 k) fun j10 =>
  zif (x1 = (-1 : Int32)) (
    j10 (1 : Int32)) (
    j10 (0 : Int32))
def f_X21_many_L7 (h0 : Nat) (h1 : Nat) (k : Int32 → ZM → Prop) : Int32 → Int32 → ZM → Prop :=
  zw2 fun r7 p7l2 p7l3 =>
    zgI 5 h1 1 fun g9 =>
    zif (g9 < p7l3) (
      k p7l2) (
      zgR 16 h0 2 fun g17 =>
      zgI 16 h0 1 fun g22 =>
      zjn (fun (r25 : Int32) =>
          zjn (fun (p36s1 : Int32) =>
              r7 (p7l2 + p36s1) (p7l3 + (1 : Int32))) fun j36 =>
          zif (r25 = 0) (
            j36 (0 : Int32)) (
            j36 (1 : Int32))) fun j25r =>
      zor (zis g17 0 (f_X23_holds g17 p7l3 g22 j25r)) (zor (zis g17 1 (f_X24_holds g17 p7l3 g22 j25r)) (zor (zis g17 2 (f_X25_holds g17 p7l3 g22 j25r)) (zis g17 3 (f_X26_holds g17 p7l3 g22 j25r)))))
def f_X21_many (h0 : Nat) (h1 : Nat) (k : Int32 → ZM → Prop) : ZM → Prop :=
  zgI 5 h1 0 fun g3 =>
  f_X21_many_L7 h0 h1 k (0 : Int32) g3
def f_X5_width (h0 : Nat) (k : Int32 → ZM → Prop) : ZM → Prop :=
  zgI 5 h0 1 fun g1 =>
  zgI 5 h0 0 fun g5 =>
  k ((g1 - g5) + (1 : Int32))
def f_X7_width (h0 : Nat) (k : Int32 → ZM → Prop) : ZM → Prop :=
  zat 5 h0 <| f_X5_width h0 fun r2 =>
  k (if (1 : Int32) < r2 then r2 else (1 : Int32))
def f_X7_least (h0 : Nat) (x1 : Int32) (k : Int32 → ZM → Prop) : ZM → Prop :=
  zjn (fun (p28s0 : Int32) =>
      k p28s0) fun j28 =>
  zif (x1 = 0) (
    j28 (0 : Int32)) (
    zgI 5 h0 2 fun g10 =>
    zgI 5 h0 3 fun g14 =>
    zat 5 h0 <| f_X7_width h0 fun r18 =>
    znm (if (0 : Int32) < (g10 - (g14 * (r18 - x1))) then (g10 - (g14 * (r18 - x1))) else (0 : Int32)) fun v25 =>
    j28 v25)
def f_X21_lower_L31 (h0 : Nat) (k : Int32 → ZM → Prop) (g26 : Nat) : Int32 → Int32 → ZM → Prop :=
  zw2 fun r31 p31l2 p31l4 =>
    zgI 4 g26 1 fun g34 =>
    zif (g34 ≤ p31l4) (
      k p31l2) (
      zgR 4 g26 0 fun g42 =>
      zaR 58 g42 p31l4 fun g47 =>
      zgR 4 g26 0 fun g50 =>
      zaR 58 g50 p31l4 fun g55 =>
      zat 16 h0 <| f_X21_many h0 g55 fun r56 =>
      zat 5 g47 <| f_X7_least g47 r56 fun r59 =>
      r31 (p31l2 + r59) (p31l4 + (1 : Int32)))
def f_X21_lower (h0 : Nat) (h1 : Nat) (k : Int32 → ZM → Prop) : ZM → Prop :=
  zat 16 h0 <| f_X21_isMissing h0 fun r1 =>
  zif (r1 = 0) (
    zgR 3 h1 1 fun g19 =>
    zgI 16 h0 0 fun g23 =>
    zaR 57 g19 g23 fun g26 =>
    f_X21_lower_L31 h0 k g26 (0 : Int32) (0 : Int32)) (
    zgI 16 h0 0 fun g9 =>
    zat 3 h1 <| f_X3_missing h1 g9 fun r12 =>
    k r12)
def f_X19_lower_L7 (h0 : Nat) (h1 : Nat) (j39 : Int32 → ZM → Prop) : Int32 → Int32 → ZM → Prop :=
  zw2 fun r7 p7l2 p7l3 =>
    zgI 15 h0 1 fun g9 =>
    zif (g9 ≤ p7l3) (
      j39 p7l2) (
      zgR 15 h0 0 fun g17 =>
      zaR 63 g17 p7l3 fun g21 =>
      zat 16 g21 <| f_X21_lower g21 h1 fun r23 =>
      zgI 3 h1 2 fun g27 =>
      r7 (p7l2 + (r23 - g27)) (p7l3 + (1 : Int32)))
def f_X19_lower (h0 : Nat) (h1 : Nat) (k : Int32 → ZM → Prop) : ZM → Prop :=
  zgI 3 h1 2 fun g1 =>
  zjn (fun (p39l2 : Int32) =>
      k (if (0 : Int32) < p39l2 then p39l2 else (0 : Int32))) fun j39 =>
  f_X19_lower_L7 h0 h1 j39 g1 (0 : Int32)
def f_X18_lower_L4 (h0 : Nat) (h1 : Nat) (k : Int32 → ZM → Prop) : Int32 → Int32 → ZM → Prop :=
  zw2 fun r4 p4l2 p4l3 =>
    zgI 14 h0 1 fun g6 =>
    zif (g6 ≤ p4l3) (
      k p4l2) (
      zgR 14 h0 0 fun g14 =>
      zaR 62 g14 p4l3 fun g18 =>
      zat 15 g18 <| f_X19_lower g18 h1 fun r20 =>
      r4 (if p4l2 < r20 then r20 else p4l2) (p4l3 + (1 : Int32)))
def f_X18_lower (h0 : Nat) (h1 : Nat) (k : Int32 → ZM → Prop) : ZM → Prop :=
  f_X18_lower_L4 h0 h1 k (0 : Int32) (0 : Int32)
def f_X7_most (h0 : Nat) (x1 : Int32) (k : Int32 → ZM → Prop) : ZM → Prop :=
  zgI 5 h0 2 fun g1 =>
  zgI 5 h0 3 fun g5 =>
  k (if (g5 * x1) < g1 then (g5 * x1) else g1)
def f_X21_upper_L31 (h0 : Nat) (k : Int32 → ZM → Prop) (g26 : Nat) : Int32 → Int32 → ZM → Prop :=
  zw2 fun r31 p31l2 p31l4 =>
    zgI 4 g26 1 fun g34 =>
    zif (g34 ≤ p31l4) (
      k p31l2) (
      zgR 4 g26 0 fun g42 =>
      zaR 58 g42 p31l4 fun g47 =>
      zgR 4 g26 0 fun g50 =>
      zaR 58 g50 p31l4 fun g55 =>
      zat 16 h0 <| f_X21_many h0 g55 fun r56 =>
      zat 5 g47 <| f_X7_most g47 r56 fun r59 =>
      r31 (p31l2 + r59) (p31l4 + (1 : Int32)))
def f_X21_upper (h0 : Nat) (h1 : Nat) (k : Int32 → ZM → Prop) : ZM → Prop :=
  zat 16 h0 <| f_X21_isMissing h0 fun r1 =>
  zif (r1 = 0) (
    zgR 3 h1 1 fun g19 =>
    zgI 16 h0 0 fun g23 =>
    zaR 57 g19 g23 fun g26 =>
    f_X21_upper_L31 h0 k g26 (0 : Int32) (0 : Int32)) (
    zgI 16 h0 0 fun g9 =>
    zat 3 h1 <| f_X3_missing h1 g9 fun r12 =>
    k r12)
def f_X19_upper_L13 (h0 : Nat) (h1 : Nat) (k : Int32 → ZM → Prop) : Int32 → Int32 → ZM → Prop :=
  zw2 fun r13 p13l2 p13l3 =>
    zgI 15 h0 1 fun g15 =>
    zif (g15 ≤ p13l3) (
      k p13l2) (
      zgR 15 h0 0 fun g23 =>
      zaR 63 g23 p13l3 fun g27 =>
      zat 16 g27 <| f_X21_upper g27 h1 fun r29 =>
      r13 (if r29 < p13l2 then r29 else p13l2) (p13l3 + (1 : Int32)))
def f_X19_upper (h0 : Nat) (h1 : Nat) (k : Int32 → ZM → Prop) : ZM → Prop :=
  zgR 15 h0 0 fun g1 =>
  zaR 63 g1 (0 : Int32) fun g5 =>
  zat 16 g5 <| f_X21_upper g5 h1 fun r7 =>
  f_X19_upper_L13 h0 h1 k r7 (1 : Int32)
def f_X18_upper_L4 (h0 : Nat) (h1 : Nat) (j31 : Int32 → ZM → Prop) : Int32 → Int32 → ZM → Prop :=
  zw2 fun r4 p4l2 p4l3 =>
    zgI 14 h0 1 fun g6 =>
    zif (g6 ≤ p4l3) (
      j31 p4l2) (
      zgR 14 h0 0 fun g14 =>
      zaR 62 g14 p4l3 fun g18 =>
      zat 15 g18 <| f_X19_upper g18 h1 fun r20 =>
      r4 (p4l2 + r20) (p4l3 + (1 : Int32)))
def f_X18_upper (h0 : Nat) (h1 : Nat) (k : Int32 → ZM → Prop) : ZM → Prop :=
  zjn (fun (p31l2 : Int32) =>
      zgI 3 h1 2 fun g32 =>
      k (if p31l2 < g32 then p31l2 else g32)) fun j31 =>
  f_X18_upper_L4 h0 h1 j31 (0 : Int32) (0 : Int32)
def f_X21_estimate_L31 (h0 : Nat) (k : Int32 → ZM → Prop) (g26 : Nat) : Int32 → Int32 → ZM → Prop :=
  zw2 fun r31 p31l2 p31l4 =>
    zgI 4 g26 1 fun g34 =>
    zif (g34 ≤ p31l4) (
      k p31l2) (
      zgR 4 g26 0 fun g42 =>
      zaR 58 g42 p31l4 fun g47 =>
      zgI 5 g47 2 fun g48 =>
      zgR 4 g26 0 fun g53 =>
      zaR 58 g53 p31l4 fun g58 =>
      zat 16 h0 <| f_X21_many h0 g58 fun r59 =>
      zgR 4 g26 0 fun g64 =>
      zaR 58 g64 p31l4 fun g69 =>
      zat 5 g69 <| f_X7_width g69 fun r70 =>
      zne r70 0 <|
      r31 (p31l2 + ((g48 * r59) / r70)) (p31l4 + (1 : Int32)))
def f_X21_estimate (h0 : Nat) (h1 : Nat) (k : Int32 → ZM → Prop) : ZM → Prop :=
  zat 16 h0 <| f_X21_isMissing h0 fun r1 =>
  zif (r1 = 0) (
    zgR 3 h1 1 fun g19 =>
    zgI 16 h0 0 fun g23 =>
    zaR 57 g19 g23 fun g26 =>
    f_X21_estimate_L31 h0 k g26 (0 : Int32) (0 : Int32)) (
    zgI 16 h0 0 fun g9 =>
    zat 3 h1 <| f_X3_missing h1 g9 fun r12 =>
    k r12)
def f_X19_estimate_L13 (h0 : Nat) (h1 : Nat) (k : Int32 → ZM → Prop) : Int32 → Int32 → ZM → Prop :=
  zw2 fun r13 p13l2 p13l3 =>
    zgI 15 h0 1 fun g15 =>
    zif (g15 ≤ p13l3) (
      k p13l2) (
      zgR 15 h0 0 fun g23 =>
      zaR 63 g23 p13l3 fun g27 =>
      zat 16 g27 <| f_X21_estimate g27 h1 fun r29 =>
      r13 (if r29 < p13l2 then r29 else p13l2) (p13l3 + (1 : Int32)))
def f_X19_estimate (h0 : Nat) (h1 : Nat) (k : Int32 → ZM → Prop) : ZM → Prop :=
  zgR 15 h0 0 fun g1 =>
  zaR 63 g1 (0 : Int32) fun g5 =>
  zat 16 g5 <| f_X21_estimate g5 h1 fun r7 =>
  f_X19_estimate_L13 h0 h1 k r7 (1 : Int32)
def f_X18_estimate_L4 (h0 : Nat) (h1 : Nat) (j31 : Int32 → ZM → Prop) : Int32 → Int32 → ZM → Prop :=
  zw2 fun r4 p4l2 p4l3 =>
    zgI 14 h0 1 fun g6 =>
    zif (g6 ≤ p4l3) (
      j31 p4l2) (
      zgR 14 h0 0 fun g14 =>
      zaR 62 g14 p4l3 fun g18 =>
      zat 15 g18 <| f_X19_estimate g18 h1 fun r20 =>
      r4 (p4l2 + r20) (p4l3 + (1 : Int32)))
def f_X18_estimate (h0 : Nat) (h1 : Nat) (k : Int32 → ZM → Prop) : ZM → Prop :=
  zjn (fun (p31l2 : Int32) =>
      zgI 3 h1 2 fun g32 =>
      k (if p31l2 < g32 then p31l2 else g32)) fun j31 =>
  f_X18_estimate_L4 h0 h1 j31 (0 : Int32) (0 : Int32)
def f_X1_begins (h0 : Nat) (k : ZM → Prop) : ZM → Prop :=
  zpI 1 h0 24 (0 : Int32) <|
  zpI 1 h0 25 (0 : Int32) <|
  k
def f_X1_traces (h0 : Nat) (x1 : Int32) (k : ZM → Prop) : ZM → Prop :=
  zgR 1 h0 23 fun g1 =>
  zgI 1 h0 24 fun g5 =>
  zbI 50 g1 g5 x1 <|
  zgI 1 h0 24 fun g12 =>
  zpI 1 h0 24 (g12 + (1 : Int32)) <|
  k
def f_X22_init (h0 : Nat) (h1 : Nat) (x2 : Int32) (k : ZM → Prop) : ZM → Prop :=
  zpR 17 h0 1 h1 <|
  zne h0 0 <|
  zpI 17 h0 0 x2 <|
  zat 1 h1 <| f_X1_traces h1 x2 <|
  k
def f_X22_sheet (h0 : Nat) (k : Nat → ZM → Prop) : ZM → Prop :=
  zgR 17 h0 1 fun g1 =>
  zgR 1 g1 15 fun g4 =>
  zgR 2 g4 0 fun g7 =>
  zgI 17 h0 0 fun g11 =>
  zaR 56 g7 g11 fun g14 =>
  k g14
def f_X1_goes (h0 : Nat) (kx : Nat → ZM → Prop) (k : ZM → Prop) : ZM → Prop :=
  zgI 1 h0 25 fun g1 =>
  zgR 1 h0 15 fun g5 =>
  zgI 2 g5 2 fun g8 =>
  zif (g1 = g8) (
    zgR 1 h0 22 fun g15 =>
    zat 6 g15 (kx g15)) (
    zgI 1 h0 25 fun g21 =>
    zpI 1 h0 25 (g21 + (1 : Int32)) <|
    k)
def f_X21_holds (h0 : Nat) (x1 : Int32) (x2 : Int32) (k : Int32 → ZM → Prop) : ZM → Prop :=
  zgR 16 h0 2 fun g1 =>
  zgI 16 h0 0 fun g5 =>
  zjn (fun (p16s1 : Int32) =>
      zgI 16 h0 1 fun g17 =>
      zjn (fun (r20 : Int32) =>
          zrz r20 k) fun j20r =>
      zor (zis g1 0 (f_X23_holds g1 p16s1 g17 j20r)) (zor (zis g1 1 (f_X24_holds g1 p16s1 g17 j20r)) (zor (zis g1 2 (f_X25_holds g1 p16s1 g17 j20r)) (zis g1 3 (f_X26_holds g1 p16s1 g17 j20r))))) fun j16 =>
  zif (g5 = 0) (
    j16 x1) (
    j16 x2)
def f_X19_holds_L2 (h0 : Nat) (x1 : Int32) (x2 : Int32) (k : Int32 → ZM → Prop) : Int32 → ZM → Prop :=
  zw1 fun r2 p2l3 =>
    zgI 15 h0 1 fun g4 =>
    zif (g4 ≤ p2l3) (
      zrz (1 : Int32) k) (
      zgR 15 h0 0 fun g11 =>
      zaR 63 g11 p2l3 fun g15 =>
      zat 16 g15 <| f_X21_holds g15 x1 x2 fun r18 =>
      zif (r18 = 0) (
        zrz (0 : Int32) k) (
        r2 (p2l3 + (1 : Int32))))
def f_X19_holds (h0 : Nat) (x1 : Int32) (x2 : Int32) (k : Int32 → ZM → Prop) : ZM → Prop :=
  f_X19_holds_L2 h0 x1 x2 k (0 : Int32)
def f_X18_holds_L2 (h0 : Nat) (x1 : Int32) (x2 : Int32) (k : Int32 → ZM → Prop) : Int32 → ZM → Prop :=
  zw1 fun r2 p2l3 =>
    zgI 14 h0 1 fun g4 =>
    zif (g4 ≤ p2l3) (
      zrz (0 : Int32) k) (
      zgR 14 h0 0 fun g11 =>
      zaR 62 g11 p2l3 fun g15 =>
      zat 15 g15 <| f_X19_holds g15 x1 x2 fun r18 =>
      zif (r18 = 0) (
        r2 (p2l3 + (1 : Int32))) (
        zrz (1 : Int32) k))
def f_X18_holds (h0 : Nat) (x1 : Int32) (x2 : Int32) (k : Int32 → ZM → Prop) : ZM → Prop :=
  f_X18_holds_L2 h0 x1 x2 k (0 : Int32)
def f_X22_close (h0 : Nat) (k : ZM → Prop) : ZM → Prop :=
  zgR 17 h0 1 fun g1 =>
  zgI 17 h0 0 fun g7 =>
  zat 1 g1 <| f_X1_traces g1 ((10 : Int32) + g7) <|
  k
def f_X1_truthOf_L35 (h0 : Nat) (h2 : Nat) (r11 : Nat) (j141 : Nat → ZM → Prop) (j124 : Int32 → Int32 → ZM → Prop) : Int32 → Int32 → Int32 → ZM → Prop :=
  zw3 fun r35 p35l5 p35l6 p35l7 =>
    zgI 3 r11 3 fun g39 =>
    zif (g39 < p35l7) (
      j124 p35l5 p35l6) (
      zgI 3 r11 3 fun g51 =>
      f_X1_valueOf p35l6 g51 fun r54 =>
      zgI 3 r11 3 fun g61 =>
      f_X1_valueOf p35l7 g61 fun r64 =>
      zat 3 r11 <| f_X3_alike r11 r54 r64 fun r67 =>
      zjn (fun (p118l5 : Int32) =>
          r35 p118l5 p35l6 (p35l7 + (1 : Int32))) fun j118 =>
      zif (r67 = 0) (
        j118 p35l5) (
        zat 1 h0 <| f_X1_goes h0 (fun (e81 : Nat) =>
              j141 e81) <|
        zgI 3 r11 3 fun g89 =>
        f_X1_valueOf p35l6 g89 fun r92 =>
        zgI 3 r11 3 fun g99 =>
        f_X1_valueOf p35l7 g99 fun r102 =>
        zat 14 h2 <| f_X18_holds h2 r92 r102 fun r105 =>
        zif (r105 = 0) (
          j118 p35l5) (
          j118 (p35l5 + r67))))
def f_X1_truthOf_L22 (h0 : Nat) (h2 : Nat) (r11 : Nat) (j141 : Nat → ZM → Prop) (j130 : Int32 → ZM → Prop) : Int32 → Int32 → ZM → Prop :=
  zw2 fun r22 p22l5 p22l6 =>
    zgI 3 r11 3 fun g26 =>
    zif (g26 < p22l6) (
      j130 p22l5) (
      zjn (fun (p124l5 : Int32) (p124l6 : Int32) =>
          r22 p124l5 (p124l6 + (1 : Int32))) fun j124 =>
      f_X1_truthOf_L35 h0 h2 r11 j141 j124 p22l5 p22l6 (0 : Int32))
def f_X1_truthOf (h0 : Nat) (x1 : Int32) (h2 : Nat) (kx : Nat → ZM → Prop) (k : Int32 → ZM → Prop) : ZM → Prop :=
  znO 17 2 fun n0 =>
  zat 17 n0 <| f_X22_init n0 h0 x1 <|
  zat 17 n0 <| f_X22_sheet n0 fun r11 =>
  zjn (fun (p141s0 : Nat) =>
      zat 17 n0 <| f_X22_close n0 <|
      zat 6 p141s0 (kx p141s0)) fun j141 =>
  zjn (fun (p130l5 : Int32) =>
      zat 17 n0 <| f_X22_close n0 <|
      k p130l5) fun j130 =>
  f_X1_truthOf_L22 h0 h2 r11 j141 j130 (0 : Int32) (0 : Int32)
def f_X1_where (h0 : Nat) (x1 : Int32) (x2 : Int32) (x3 : Int32) (k : Int32 → ZM → Prop) : ZM → Prop :=
  zat 1 h0 <| f_X1_isTable h0 x1 fun r2 =>
  zjn (
      k (-1 : Int32)) fun j28 =>
  zif (r2 = 0) (
    j28) (
    zat 1 h0 <| f_X1_isWhere h0 x2 fun r10 =>
    zif (r10 = 0) (
      j28) (
      f_X1_isIn x3.toInt64 (0 : Int64) (3 : Int64) fun r22 =>
      zif (r22 = 0) (
        j28) (
        zgR 1 h0 2 fun g31 =>
        zaR 53 g31 x2 fun g35 =>
        zif (x3 ≤ 0) (
          zat 1 h0 <| f_X1_begins h0 <|
          zat 1 h0 <| zclx' 1 2 (fun k9 kx9 => f_X1_truthOf h0 x1 g35 kx9 k9) (fun (e97 : Nat) =>
                zat 1 h0 <| f_X1_refuse h0 (4 : Int32) fun r105 =>
                k r105) fun r97 =>
          k r97) (
          zjn (fun (p88s0 : Int32) =>
              k p88s0) fun j88 =>
          zif (x3 = (1 : Int32)) (
            zat 1 h0 <| f_X1_sheet h0 x1 fun r51 =>
            zat 14 g35 <| f_X18_lower g35 r51 fun r54 =>
            j88 r54) (
            zif (x3 = (2 : Int32)) (
              zat 1 h0 <| f_X1_sheet h0 x1 fun r69 =>
              zat 14 g35 <| f_X18_upper g35 r69 fun r72 =>
              j88 r72) (
              zat 1 h0 <| f_X1_sheet h0 x1 fun r82 =>
              zat 14 g35 <| f_X18_estimate g35 r82 fun r85 =>
              j88 r85))))))
def f_X1_sorts_L21 (h2 : Nat) (r13 : Int32) (j53 : Int32 → Int32 → ZM → Prop) : Int32 → Int32 → ZM → Prop :=
  zw2 fun r21 p21l3 p21l5 =>
    zif (p21l5 ≤ 0) (
      j53 p21l3 p21l5) (
      zaI 50 h2 (p21l5 - (1 : Int32)) fun g31 =>
      zif (r13 ≤ g31) (
        j53 p21l3 p21l5) (
        zaI 50 h2 (p21l5 - (1 : Int32)) fun g45 =>
        zbI 50 h2 p21l5 g45 <|
        r21 p21l3 (p21l5 + (-1 : Int32))))
def f_X1_sorts_L2 (h0 : Nat) (x1 : Int32) (h2 : Nat) (k : Int32 → ZM → Prop) : Int32 → ZM → Prop :=
  zw1 fun r2 p2l3 =>
    zgI 3 h0 3 fun g4 =>
    zif (g4 ≤ p2l3) (
      zgI 3 h0 3 fun g66 =>
      k g66) (
      zat 3 h0 <| f_X3_count h0 x1 p2l3 fun r13 =>
      zjn (fun (p53l3 : Int32) (p53l5 : Int32) =>
          zbI 50 h2 p53l5 r13 <|
          r2 (p53l3 + (1 : Int32))) fun j53 =>
      f_X1_sorts_L21 h2 r13 j53 p2l3 p2l3)
def f_X1_sorts (h0 : Nat) (x1 : Int32) (h2 : Nat) (k : Int32 → ZM → Prop) : ZM → Prop :=
  f_X1_sorts_L2 h0 x1 h2 k (0 : Int32)
def f_X1_byDegrees_L30 (h0 : Nat) (k : Int64 → ZM → Prop) (r6 : Int32) (r16 : Int32) : Int64 → Int32 → ZM → Prop :=
  zw2 fun r30 p30l6 p30l8 =>
    zif ((if r16 < r6 then r16 else r6) ≤ p30l8) (
      k p30l6) (
      zgR 1 h0 26 fun g40 =>
      zaI 50 g40 p30l8 fun g45 =>
      zgR 1 h0 27 fun g48 =>
      zaI 50 g48 p30l8 fun g53 =>
      r30 (p30l6 + (g45.toInt64 * g53.toInt64)) (p30l8 + (1 : Int32)))
def f_X1_byDegrees (h0 : Nat) (h1 : Nat) (x2 : Int32) (h3 : Nat) (x4 : Int32) (k : Int64 → ZM → Prop) : ZM → Prop :=
  zgR 1 h0 26 fun g3 =>
  f_X1_sorts h1 x2 g3 fun r6 =>
  zgR 1 h0 27 fun g13 =>
  f_X1_sorts h3 x4 g13 fun r16 =>
  f_X1_byDegrees_L30 h0 k r6 r16 (0 : Int64) (0 : Int32)
def f_X5_common (h0 : Nat) (h1 : Nat) (k : Int32 → ZM → Prop) : ZM → Prop :=
  zgI 5 h0 1 fun g2 =>
  zgI 5 h1 1 fun g6 =>
  zgI 5 h0 0 fun g13 =>
  zgI 5 h1 0 fun g17 =>
  znm (((if g6 < g2 then g6 else g2) - (if g13 < g17 then g17 else g13)) + (1 : Int32)) fun v25 =>
  k (if (0 : Int32) < v25 then v25 else (0 : Int32))
def f_X1_joined_L17 (h0 : Nat) (h1 : Nat) (x2 : Int32) (j162 : Int64 → Int32 → ZM → Prop) : Int64 → Int32 → Int32 → ZM → Prop :=
  zw3 fun r17 p17l3 p17l5 p17l6 =>
    zgI 4 h1 1 fun g20 =>
    zif (g20 ≤ p17l6) (
      j162 p17l3 p17l5) (
      zgR 4 h0 0 fun g27 =>
      zaR 58 g27 p17l5 fun g32 =>
      zgR 4 h1 0 fun g36 =>
      zaR 58 g36 p17l6 fun g41 =>
      f_X5_common g32 g41 fun r48 =>
      zjn (fun (p156l3 : Int64) =>
          r17 p156l3 p17l5 (p17l6 + (1 : Int32))) fun j156 =>
      zif ((lg_cmp r48.toInt64 (0 : Int64)) = 0) (
        j156 p17l3) (
        zgI 5 g32 2 fun g66 =>
        zgI 5 g41 3 fun g72 =>
        zgI 5 g41 2 fun g79 =>
        zgI 5 g32 3 fun g85 =>
        znm (if (g79.toInt64 * g85.toInt64) < (g66.toInt64 * g72.toInt64) then (g79.toInt64 * g85.toInt64) else (g66.toInt64 * g72.toInt64)) fun v90 =>
        zjn (fun (p154s1 : Int64) =>
            j156 (p17l3 + p154s1)) fun j154 =>
        zif (x2 = 0) (
          zgI 5 g32 2 fun g128 =>
          zgI 5 g41 2 fun g135 =>
          zat 5 g32 <| f_X7_width g32 fun r142 =>
          zat 5 g41 <| f_X7_width g41 fun r148 =>
          zne (r142.toInt64 * r148.toInt64) 0 <|
          znm (((r48.toInt64 * g128.toInt64) * g135.toInt64) / (r142.toInt64 * r148.toInt64)) fun v153 =>
          j154 v153) (
          zgI 5 g32 3 fun g106 =>
          zgI 5 g41 3 fun g113 =>
          znm (if ((r48.toInt64 * g106.toInt64) * g113.toInt64) < v90 then ((r48.toInt64 * g106.toInt64) * g113.toInt64) else v90) fun v118 =>
          j154 v118)))
def f_X1_joined_L5 (h0 : Nat) (h1 : Nat) (x2 : Int32) (k : Int64 → ZM → Prop) : Int64 → Int32 → ZM → Prop :=
  zw2 fun r5 p5l3 p5l5 =>
    zgI 4 h0 1 fun g8 =>
    zif (g8 ≤ p5l5) (
      k p5l3) (
      zjn (fun (p162l3 : Int64) (p162l5 : Int32) =>
          r5 p162l3 (p162l5 + (1 : Int32))) fun j162 =>
      f_X1_joined_L17 h0 h1 x2 j162 p5l3 p5l5 (0 : Int32))
def f_X1_joined (h0 : Nat) (h1 : Nat) (x2 : Int32) (k : Int64 → ZM → Prop) : ZM → Prop :=
  f_X1_joined_L5 h0 h1 x2 k (0 : Int64) (0 : Int32)
def f_X1_truthOfJoin_L28 (h0 : Nat) (x2 : Int32) (x4 : Int32) (n0 : Nat) (n11 : Nat) (j124 : Nat → ZM → Prop) (j107 : Int64 → ZM → Prop) : Int64 → Int32 → ZM → Prop :=
  zw2 fun r28 p28l7 p28l9 =>
    zat 17 n0 <| f_X22_sheet n0 fun r32 =>
    zgI 3 r32 3 fun g35 =>
    zif (g35 ≤ p28l9) (
      j107 p28l7) (
      zat 17 n0 <| f_X22_sheet n0 fun r43 =>
      zat 3 r43 <| f_X3_count r43 x2 p28l9 fun r49 =>
      zjn (fun (p101l7 : Int64) =>
          r28 p101l7 (p28l9 + (1 : Int32))) fun j101 =>
      zif (r49 = 0) (
        j101 p28l7) (
        zat 1 h0 <| f_X1_goes h0 (fun (e63 : Nat) =>
              j124 e63) <|
        zat 17 n11 <| f_X22_sheet n11 fun r70 =>
        zgI 3 r70 3 fun g73 =>
        zif (g73 ≤ p28l9) (
          j101 p28l7) (
          zat 17 n11 <| f_X22_sheet n11 fun r86 =>
          zat 3 r86 <| f_X3_count r86 x4 p28l9 fun r93 =>
          j101 (p28l7 + (r49.toInt64 * r93.toInt64)))))
def f_X1_truthOfJoin (h0 : Nat) (x1 : Int32) (x2 : Int32) (x3 : Int32) (x4 : Int32) (kx : Nat → ZM → Prop) (k : Int64 → ZM → Prop) : ZM → Prop :=
  znO 17 2 fun n0 =>
  zat 17 n0 <| f_X22_init n0 h0 x1 <|
  znO 17 2 fun n11 =>
  zat 17 n11 <| f_X22_init n11 h0 x3 <|
  zjn (fun (p124s0 : Nat) =>
      zat 17 n11 <| f_X22_close n11 <|
      zthr 6 p124s0 fun e145 =>
      zat 17 n0 <| f_X22_close n0 <|
      zat 6 e145 (kx e145)) fun j124 =>
  zjn (fun (p107l7 : Int64) =>
      zat 17 n11 <| f_X22_close n11 <|
      zat 17 n0 <| f_X22_close n0 <|
      k p107l7) fun j107 =>
  f_X1_truthOfJoin_L28 h0 x2 x4 n0 n11 j124 j107 (0 : Int64) (0 : Int32)
def f_X1_join (h0 : Nat) (x1 : Int32) (x2 : Int32) (x3 : Int32) (x4 : Int32) (x5 : Int32) (k : Int64 → ZM → Prop) : ZM → Prop :=
  zat 1 h0 <| f_X1_isColumn h0 x1 x2 fun r3 =>
  zjn (
      k (-1 : Int64)) fun j32 =>
  zif (r3 = 0) (
    j32) (
    zat 1 h0 <| f_X1_isColumn h0 x3 x4 fun r13 =>
    zif (r13 = 0) (
      j32) (
      f_X1_isIn x5.toInt64 (0 : Int64) (3 : Int64) fun r26 =>
      zif (r26 = 0) (
        j32) (
        zat 1 h0 <| f_X1_sheet h0 x1 fun r38 =>
        zat 1 h0 <| f_X1_sheet h0 x3 fun r45 =>
        zif (x5 = (2 : Int32)) (
          zat 1 h0 <| f_X1_byDegrees h0 r38 x2 r45 x4 fun r64 =>
          k r64) (
          zif (x5 ≤ 0) (
            zat 1 h0 <| f_X1_begins h0 <|
            zat 1 h0 <| zclx' 2 4 (fun k9 kx9 => f_X1_truthOfJoin h0 x1 x2 x3 x4 kx9 k9) (fun (e113 : Nat) =>
                  zat 1 h0 <| f_X1_refuse h0 (4 : Int32) fun r121 =>
                  k r121.toInt64) fun r113 =>
            k r113) (
            zgR 3 r38 1 fun g75 =>
            zaR 57 g75 x2 fun g79 =>
            zgR 3 r45 1 fun g82 =>
            zaR 57 g82 x4 fun g87 =>
            zjn (fun (p99s2 : Int32) =>
                f_X1_joined g79 g87 p99s2 fun r99 =>
                k r99) fun j99 =>
            zif (x5 = (1 : Int32)) (
              j99 (1 : Int32)) (
              j99 (0 : Int32)))))))
def f_X4_greatest_L4 (h0 : Nat) (k : Int32 → ZM → Prop) : Int32 → Int32 → ZM → Prop :=
  zw2 fun r4 p4l1 p4l2 =>
    zgI 4 h0 1 fun g6 =>
    zif (g6 ≤ p4l2) (
      k p4l1) (
      zgR 4 h0 0 fun g14 =>
      zaR 58 g14 p4l2 fun g18 =>
      zgI 5 g18 3 fun g19 =>
      r4 (if p4l1 < g19 then g19 else p4l1) (p4l2 + (1 : Int32)))
def f_X4_greatest (h0 : Nat) (k : Int32 → ZM → Prop) : ZM → Prop :=
  f_X4_greatest_L4 h0 k (0 : Int32) (0 : Int32)
def f_X1_truthOfChain_L55 (h0 : Nat) (n0 : Nat) (n20 : Nat) (r31 : Nat) (j178 : Nat → ZM → Prop) (j153 : Int64 → Int32 → ZM → Prop) : Int64 → Int32 → Int32 → ZM → Prop :=
  zw3 fun r55 p55l5 p55l7 p55l8 =>
    zgI 3 r31 3 fun g59 =>
    zif (g59 ≤ p55l8) (
      j153 p55l5 p55l7) (
      zat 3 r31 <| f_X3_alike r31 p55l7 p55l8 fun r71 =>
      zjn (fun (p147l5 : Int64) =>
          r55 p147l5 p55l7 (p55l8 + (1 : Int32))) fun j147 =>
      zif (r71 = 0) (
        j147 p55l5) (
        zat 1 h0 <| f_X1_goes h0 (fun (e81 : Nat) =>
              j178 e81) <|
        zat 17 n0 <| f_X22_sheet n0 fun r87 =>
        zgI 3 r87 3 fun g90 =>
        zif (g90 ≤ p55l7) (
          j147 p55l5) (
          zat 17 n20 <| f_X22_sheet n20 fun r99 =>
          zgI 3 r99 3 fun g102 =>
          zif (g102 ≤ p55l8) (
            j147 p55l5) (
            zat 3 r31 <| f_X3_alike r31 p55l7 p55l8 fun r116 =>
            zat 17 n0 <| f_X22_sheet n0 fun r121 =>
            zat 3 r121 <| f_X3_count r121 (1 : Int32) p55l7 fun r127 =>
            zat 17 n20 <| f_X22_sheet n20 fun r133 =>
            zat 3 r133 <| f_X3_count r133 (0 : Int32) p55l8 fun r139 =>
            j147 (p55l5 + ((r116.toInt64 * r127.toInt64) * r139.toInt64))))))
def f_X1_truthOfChain_L42 (h0 : Nat) (n0 : Nat) (n20 : Nat) (r31 : Nat) (j178 : Nat → ZM → Prop) (j159 : Int64 → ZM → Prop) : Int64 → Int32 → ZM → Prop :=
  zw2 fun r42 p42l5 p42l7 =>
    zgI 3 r31 3 fun g46 =>
    zif (g46 ≤ p42l7) (
      j159 p42l5) (
      zjn (fun (p153l5 : Int64) (p153l7 : Int32) =>
          r42 p153l5 (p153l7 + (1 : Int32))) fun j153 =>
      f_X1_truthOfChain_L55 h0 n0 n20 r31 j178 j153 p42l5 p42l7 (0 : Int32))
def f_X1_truthOfChain (h0 : Nat) (kx : Nat → ZM → Prop) (k : Int64 → ZM → Prop) : ZM → Prop :=
  znO 17 2 fun n0 =>
  zat 17 n0 <| f_X22_init n0 h0 (0 : Int32) <|
  znO 17 2 fun n10 =>
  zat 17 n10 <| f_X22_init n10 h0 (1 : Int32) <|
  znO 17 2 fun n20 =>
  zat 17 n20 <| f_X22_init n20 h0 (2 : Int32) <|
  zat 17 n10 <| f_X22_sheet n10 fun r31 =>
  zjn (fun (p178s0 : Nat) =>
      zat 17 n20 <| f_X22_close n20 <|
      zthr 6 p178s0 fun e198 =>
      zat 17 n10 <| f_X22_close n10 <|
      zthr 6 e198 fun e216 =>
      zat 17 n0 <| f_X22_close n0 <|
      zat 6 e216 (kx e216)) fun j178 =>
  zjn (fun (p159l5 : Int64) =>
      zat 17 n20 <| f_X22_close n20 <|
      zat 17 n10 <| f_X22_close n10 <|
      zat 17 n0 <| f_X22_close n0 <|
      k p159l5) fun j159 =>
  f_X1_truthOfChain_L42 h0 n0 n20 r31 j178 j159 (0 : Int64) (0 : Int32)
def f_X1_chain (h0 : Nat) (x1 : Int32) (k : Int64 → ZM → Prop) : ZM → Prop :=
  zgR 1 h0 5 fun g1 =>
  zjn (
      k (-1 : Int64)) fun j28 =>
  zif (g1 = 0) (
    j28) (
    zgR 1 h0 5 fun g8 =>
    zgI 9 g8 3 fun g11 =>
    zif (g11 < (3 : Int32)) (
      j28) (
      f_X1_isIn x1.toInt64 (0 : Int64) (1 : Int64) fun r22 =>
      zif (r22 = 0) (
        j28) (
        zif (x1 = (1 : Int32)) (
          zat 1 h0 <| f_X1_sheet h0 (0 : Int32) fun r39 =>
          zgR 3 r39 1 fun g42 =>
          zaR 57 g42 (1 : Int32) fun g46 =>
          zat 1 h0 <| f_X1_sheet h0 (1 : Int32) fun r50 =>
          zgR 3 r50 1 fun g53 =>
          zaR 57 g53 (0 : Int32) fun g57 =>
          zat 1 h0 <| f_X1_sheet h0 (1 : Int32) fun r61 =>
          zgR 3 r61 1 fun g64 =>
          zaR 57 g64 (1 : Int32) fun g68 =>
          zat 1 h0 <| f_X1_sheet h0 (2 : Int32) fun r73 =>
          zgR 3 r73 1 fun g76 =>
          zaR 57 g76 (0 : Int32) fun g80 =>
          f_X1_joined g46 g57 (1 : Int32) fun r86 =>
          zat 4 g80 <| f_X4_greatest g80 fun r91 =>
          f_X1_joined g68 g80 (1 : Int32) fun r101 =>
          zat 4 g46 <| f_X4_greatest g46 fun r105 =>
          znm (if (r101 * r105.toInt64) < (r86 * r91.toInt64) then (r101 * r105.toInt64) else (r86 * r91.toInt64)) fun v110 =>
          k v110) (
          zat 1 h0 <| f_X1_begins h0 <|
          zat 1 h0 <| zclx' 3 6 (fun k9 kx9 => f_X1_truthOfChain h0 kx9 k9) (fun (e119 : Nat) =>
                zat 1 h0 <| f_X1_refuse h0 (4 : Int32) fun r126 =>
                k r126.toInt64) fun r119 =>
          k r119))))
def f_X1_trace (h0 : Nat) (x1 : Int32) (k : Int32 → ZM → Prop) : ZM → Prop :=
  zgI 1 h0 24 fun g4 =>
  f_X1_isIn x1.toInt64 (0 : Int64) ((g4 - (1 : Int32)).toInt64) fun r10 =>
  zjn (fun (p26s0 : Int32) =>
      k p26s0) fun j26 =>
  zif (r10 = 0) (
    j26 (-1 : Int32)) (
    zgR 1 h0 23 fun g17 =>
    zaI 50 g17 x1 fun g21 =>
    j26 g21)
def f_X1_spreadOf (h0 : Nat) (h1 : Nat) (k : Int32 → ZM → Prop) : ZM → Prop :=
  zat 14 h0 <| f_X18_upper h0 h1 fun r2 =>
  zat 14 h0 <| f_X18_lower h0 h1 fun r9 =>
  k (r2 - r9)
def f_X1_narrow_L55 (h0 : Nat) (x1 : Int32) (x2 : Int32) (j121 : Int32 → Int32 → ZM → Prop) : Int32 → Int32 → Int32 → ZM → Prop :=
  zw3 fun r55 p55l5 p55l6 p55l7 =>
    zif ((2 : Int32) ≤ p55l7) (
      j121 p55l5 p55l6) (
      zgR 1 h0 17 fun g62 =>
      zat 1 h0 <| f_X1_sheet h0 x1 fun r67 =>
      zat 3 g62 <| f_X3_becomes g62 r67 <|
      zgR 1 h0 17 fun g74 =>
      zat 3 g74 <| f_X3_builds g74 p55l7 <|
      zgR 1 h0 2 fun g83 =>
      zaR 53 g83 x2 fun g87 =>
      zgR 1 h0 17 fun g89 =>
      f_X1_spreadOf g87 g89 fun r92 =>
      zjn (fun (p115l5 : Int32) (p115l6 : Int32) =>
          r55 p115l5 p115l6 (p55l7 + (1 : Int32))) fun j115 =>
      zif (r92 < p55l6) (
        j115 p55l7 r92) (
        j115 p55l5 p55l6))
def f_X1_narrow (h0 : Nat) (x1 : Int32) (x2 : Int32) (x3 : Int32) (k : Int32 → ZM → Prop) : ZM → Prop :=
  zat 1 h0 <| f_X1_isTable h0 x1 fun r2 =>
  zjn (
      k (-1000000 : Int32)) fun j26 =>
  zif (r2 = 0) (
    j26) (
    zat 1 h0 <| f_X1_isWhere h0 x2 fun r10 =>
    zif (r10 = 0) (
      j26) (
      f_X1_isIn x3.toInt64 (0 : Int64) (1 : Int64) fun r20 =>
      zif (r20 = 0) (
        j26) (
        zgR 1 h0 2 fun g30 =>
        zaR 53 g30 x2 fun g34 =>
        zat 1 h0 <| f_X1_sheet h0 x1 fun r37 =>
        f_X1_spreadOf g34 r37 fun r40 =>
        zjn (fun (p121l5 : Int32) (p121l6 : Int32) =>
            zjn (fun (p135s0 : Int32) =>
                k p135s0) fun j135 =>
            zif (x3 = 0) (
              j135 p121l5) (
              j135 (r40 - p121l6))) fun j121 =>
        f_X1_narrow_L55 h0 x1 x2 j121 (-1 : Int32) r40 (0 : Int32))))
def f_X1_drawn_L5 (x0 : Int32) (x1 : Int32) (j31 : Int64 → ZM → Prop) : Int64 → Int32 → ZM → Prop :=
  zw2 fun r5 p5l2 p5l4 =>
    zif (x1 ≤ p5l4) (
      j31 p5l2) (
      zne ((p5l4 + (1 : Int32)).toInt64) 0 <|
      r5 ((p5l2 * (x0 - p5l4).toInt64) / (p5l4 + (1 : Int32)).toInt64) (p5l4 + (1 : Int32)))
def f_X1_drawn (x0 : Int32) (x1 : Int32) (k : Int64 → ZM → Prop) : ZM → Prop :=
  zjn (fun (p31l2 : Int64) =>
      zjn (fun (p41s0 : Int64) =>
          k p41s0) fun j41 =>
      zif (x1 ≤ x0) (
        j41 p31l2) (
        j41 (0 : Int64))) fun j31 =>
  f_X1_drawn_L5 x0 x1 j31 (1 : Int64) (0 : Int32)
def f_X1_holdsFor_L15 (h0 : Nat) (h1 : Nat) (j56 : Int32 → Int32 → ZM → Prop) : Int32 → Int32 → Int32 → ZM → Prop :=
  zw3 fun r15 p15l2 p15l3 p15l4 =>
    zgI 3 h0 3 fun g18 =>
    zif (g18 ≤ p15l4) (
      j56 p15l2 p15l3) (
      zat 14 h1 <| f_X18_holds h1 p15l3 p15l4 fun r29 =>
      zjn (fun (p48s1 : Int32) =>
          r15 (p15l2 + p48s1) p15l3 (p15l4 + (1 : Int32))) fun j48 =>
      zif (r29 = 0) (
        j48 (0 : Int32)) (
        zat 3 h0 <| f_X3_alike h0 p15l3 p15l4 fun r41 =>
        j48 r41))
def f_X1_holdsFor_L4 (h0 : Nat) (h1 : Nat) (k : Int32 → ZM → Prop) : Int32 → Int32 → ZM → Prop :=
  zw2 fun r4 p4l2 p4l3 =>
    zgI 3 h0 3 fun g6 =>
    zif (g6 ≤ p4l3) (
      k p4l2) (
      zjn (fun (p56l2 : Int32) (p56l3 : Int32) =>
          r4 p56l2 (p56l3 + (1 : Int32))) fun j56 =>
      f_X1_holdsFor_L15 h0 h1 j56 p4l2 p4l3 (-1 : Int32))
def f_X1_holdsFor (h0 : Nat) (h1 : Nat) (k : Int32 → ZM → Prop) : ZM → Prop :=
  f_X1_holdsFor_L4 h0 h1 k (0 : Int32) (-1 : Int32)
def f_X1_odds (h0 : Nat) (x1 : Int32) (x2 : Int32) (x3 : Int32) (x4 : Int32) (k : Int64 → ZM → Prop) : ZM → Prop :=
  zat 1 h0 <| f_X1_isTable h0 x1 fun r2 =>
  zjn (
      k (-1 : Int64)) fun j51 =>
  zif (r2 = 0) (
    j51) (
    zat 1 h0 <| f_X1_isWhere h0 x2 fun r10 =>
    zif (r10 = 0) (
      j51) (
      f_X1_isIn x3.toInt64 (1 : Int64) (4 : Int64) fun r22 =>
      zif (r22 = 0) (
        j51) (
        f_X1_isIn x4.toInt64 (0 : Int64) (1 : Int64) fun r33 =>
        zif (r33 = 0) (
          j51) (
          zat 1 h0 <| f_X1_sheet h0 x1 fun r41 =>
          zgI 3 r41 2 fun g44 =>
          zif (x3 ≤ g44) (
            zat 1 h0 <| f_X1_sheet h0 x1 fun r57 =>
            zgI 3 r57 2 fun g60 =>
            f_X1_drawn g60 x3 fun r64 =>
            zat 1 h0 <| f_X1_sheet h0 x1 fun r71 =>
            zgR 1 h0 2 fun g75 =>
            zaR 53 g75 x2 fun g79 =>
            f_X1_holdsFor r71 g79 fun r80 =>
            f_X1_drawn r80 x3 fun r84 =>
            zjn (fun (p101s0 : Int64) =>
                f_X1_divisor r64 r84 fun r105 =>
                zne r105 0 <|
                k (p101s0 / r105)) fun j101 =>
            zif (x4 = 0) (
              j101 r84) (
              j101 r64)) (
            j51)))))
def f_X1_shares (h0 : Nat) (x1 : Int32) (x2 : Int32) (k : Int32 → ZM → Prop) : ZM → Prop :=
  zat 1 h0 <| f_X1_isTable h0 x1 fun r2 =>
  zjn (
      k (-1 : Int32)) fun j20 =>
  zif (r2 = 0) (
    j20) (
    f_X1_isIn x2.toInt64 (0 : Int64) (999 : Int64) fun r14 =>
    zif (r14 = 0) (
      j20) (
      zgR 1 h0 15 fun g23 =>
      zat 2 g23 <| f_X2_rows g23 fun r26 =>
      zjn (fun (p54s0 : Int32) =>
          k p54s0) fun j54 =>
      zif (r26 = 0) (
        j54 (0 : Int32)) (
        zat 1 h0 <| f_X1_sheet h0 x1 fun r39 =>
        zgI 3 r39 2 fun g42 =>
        zgR 1 h0 15 fun g47 =>
        zat 2 g47 <| f_X2_rows g47 fun r50 =>
        zne r50 0 <|
        j54 ((x2 * g42) / r50))))
def f_X1_greatestRows_L4 (h0 : Nat) (k : Int32 → ZM → Prop) : Int32 → Int32 → ZM → Prop :=
  zw2 fun r4 p4l1 p4l2 =>
    zgR 1 h0 5 fun g6 =>
    zgI 9 g6 3 fun g9 =>
    zif (g9 ≤ p4l2) (
      k p4l1) (
      zat 1 h0 <| f_X1_sheet h0 p4l2 fun r17 =>
      zgI 3 r17 2 fun g20 =>
      zat 1 h0 <| f_X1_sheet h0 p4l1 fun r25 =>
      zgI 3 r25 2 fun g28 =>
      zjn (fun (p39s0 : Int32) =>
          r4 p39s0 (p4l2 + (1 : Int32))) fun j39 =>
      zif (g20 ≤ g28) (
        j39 p4l1) (
        j39 p4l2))
def f_X1_greatestRows (h0 : Nat) (k : Int32 → ZM → Prop) : ZM → Prop :=
  f_X1_greatestRows_L4 h0 k (0 : Int32) (1 : Int32)
def f_X1_mostDrifted_L17 (h0 : Nat) (j70 : Int32 → Int32 → ZM → Prop) : Int32 → Int32 → Int32 → ZM → Prop :=
  zw3 fun r17 p17l1 p17l2 p17l3 =>
    zif ((2 : Int32) ≤ p17l3) (
      j70 p17l1 p17l2) (
      zat 1 h0 <| f_X1_sheet h0 p17l2 fun r24 =>
      zgR 3 r24 1 fun g27 =>
      zaR 57 g27 p17l3 fun g31 =>
      zgI 4 g31 2 fun g32 =>
      zne (10 : Int32) 0 <|
      zat 1 h0 <| f_X1_sheet h0 (p17l1 / (10 : Int32)) fun r40 =>
      zgR 3 r40 1 fun g43 =>
      zne (10 : Int32) 0 <|
      zaR 57 g43 (p17l1 - p17l1 / (10 : Int32) * (10 : Int32)) fun g50 =>
      zgI 4 g50 2 fun g51 =>
      zjn (fun (p64l1 : Int32) =>
          r17 p64l1 p17l2 (p17l3 + (1 : Int32))) fun j64 =>
      zif (g32 ≤ g51) (
        j64 p17l1) (
        j64 (((10 : Int32) * p17l2) + p17l3)))
def f_X1_mostDrifted_L4 (h0 : Nat) (k : Int32 → ZM → Prop) : Int32 → Int32 → ZM → Prop :=
  zw2 fun r4 p4l1 p4l2 =>
    zgR 1 h0 5 fun g6 =>
    zgI 9 g6 3 fun g9 =>
    zif (g9 ≤ p4l2) (
      k p4l1) (
      zjn (fun (p70l1 : Int32) (p70l2 : Int32) =>
          r4 p70l1 (p70l2 + (1 : Int32))) fun j70 =>
      f_X1_mostDrifted_L17 h0 j70 p4l1 p4l2 (0 : Int32))
def f_X1_mostDrifted (h0 : Nat) (k : Int32 → ZM → Prop) : ZM → Prop :=
  f_X1_mostDrifted_L4 h0 k (0 : Int32) (0 : Int32)
def f_X1_greatestTotal_L47 (g41 : Nat) (j79 : Int32 → Int32 → Int32 → ZM → Prop) : Int32 → Int32 → Int32 → Int32 → ZM → Prop :=
  zw4 fun r47 p47l1 p47l2 p47l5 p47l7 =>
    zgI 4 g41 1 fun g51 =>
    zif (g51 ≤ p47l7) (
      j79 p47l1 p47l2 p47l5) (
      zgR 4 g41 0 fun g60 =>
      zaR 58 g60 p47l7 fun g65 =>
      zgI 5 g65 2 fun g66 =>
      r47 (if p47l1 < g66 then g66 else p47l1) p47l2 p47l5 (p47l7 + (1 : Int32)))
def f_X1_greatestTotal_L31 (g20 : Nat) (g25 : Int32) (j85 : Int32 → Int32 → ZM → Prop) : Int32 → Int32 → Int32 → ZM → Prop :=
  zw3 fun r31 p31l1 p31l2 p31l5 =>
    zif (g25 ≤ p31l5) (
      j85 p31l1 p31l2) (
      zaR 57 g20 p31l5 fun g41 =>
      zjn (fun (p79l1 : Int32) (p79l2 : Int32) (p79l5 : Int32) =>
          r31 p79l1 p79l2 (p79l5 + (1 : Int32))) fun j79 =>
      f_X1_greatestTotal_L47 g41 j79 p31l1 p31l2 p31l5 (0 : Int32))
def f_X1_greatestTotal_L4 (h0 : Nat) (k : Int32 → ZM → Prop) : Int32 → Int32 → ZM → Prop :=
  zw2 fun r4 p4l1 p4l2 =>
    zgR 1 h0 5 fun g6 =>
    zgI 9 g6 3 fun g9 =>
    zif (g9 ≤ p4l2) (
      k p4l1) (
      zat 1 h0 <| f_X1_sheet h0 p4l2 fun r17 =>
      zgR 3 r17 1 fun g20 =>
      zln 57 g20 fun g25 =>
      zjn (fun (p85l1 : Int32) (p85l2 : Int32) =>
          r4 p85l1 (p85l2 + (1 : Int32))) fun j85 =>
      f_X1_greatestTotal_L31 g20 g25 j85 p4l1 p4l2 (0 : Int32))
def f_X1_greatestTotal (h0 : Nat) (k : Int32 → ZM → Prop) : ZM → Prop :=
  f_X1_greatestTotal_L4 h0 k (0 : Int32) (0 : Int32)
def f_X1_mostAlike_L31 (g20 : Nat) (g25 : Int32) (j57 : Int32 → Int32 → ZM → Prop) : Int32 → Int32 → Int32 → ZM → Prop :=
  zw3 fun r31 p31l1 p31l2 p31l5 =>
    zif (g25 ≤ p31l5) (
      j57 p31l1 p31l2) (
      zaI 50 g20 p31l5 fun g41 =>
      r31 (if p31l1 < g41 then g41 else p31l1) p31l2 (p31l5 + (1 : Int32)))
def f_X1_mostAlike_L4 (h0 : Nat) (k : Int32 → ZM → Prop) : Int32 → Int32 → ZM → Prop :=
  zw2 fun r4 p4l1 p4l2 =>
    zgR 1 h0 5 fun g6 =>
    zgI 9 g6 3 fun g9 =>
    zif (g9 ≤ p4l2) (
      k p4l1) (
      zat 1 h0 <| f_X1_sheet h0 p4l2 fun r17 =>
      zgR 3 r17 0 fun g20 =>
      zln 50 g20 fun g25 =>
      zjn (fun (p57l1 : Int32) (p57l2 : Int32) =>
          r4 p57l1 (p57l2 + (1 : Int32))) fun j57 =>
      f_X1_mostAlike_L31 g20 g25 j57 p4l1 p4l2 (0 : Int32))
def f_X1_mostAlike (h0 : Nat) (k : Int32 → ZM → Prop) : ZM → Prop :=
  f_X1_mostAlike_L4 h0 k (0 : Int32) (0 : Int32)
def f_X1_countedMost_L18 (h0 : Nat) (x1 : Int32) (j58 : Int32 → Int32 → ZM → Prop) : Int32 → Int32 → Int32 → ZM → Prop :=
  zw3 fun r18 p18l2 p18l3 p18l4 =>
    zif ((2 : Int32) ≤ p18l4) (
      j58 p18l2 p18l3) (
      zat 1 h0 <| f_X1_sheet h0 p18l3 fun r27 =>
      zgI 3 r27 3 fun g30 =>
      zjn (fun (p52l2 : Int32) =>
          r18 p52l2 p18l3 (p18l4 + (1 : Int32))) fun j52 =>
      zif (g30 ≤ x1) (
        j52 p18l2) (
        zat 1 h0 <| f_X1_sheet h0 p18l3 fun r39 =>
        zat 3 r39 <| f_X3_count r39 p18l4 x1 fun r45 =>
        j52 (if p18l2 < r45 then r45 else p18l2)))
def f_X1_countedMost_L4 (h0 : Nat) (x1 : Int32) (k : Int32 → ZM → Prop) : Int32 → Int32 → ZM → Prop :=
  zw2 fun r4 p4l2 p4l3 =>
    zgR 1 h0 5 fun g6 =>
    zgI 9 g6 3 fun g9 =>
    zif (g9 ≤ p4l3) (
      k p4l2) (
      zjn (fun (p58l2 : Int32) (p58l3 : Int32) =>
          r4 p58l2 (p58l3 + (1 : Int32))) fun j58 =>
      f_X1_countedMost_L18 h0 x1 j58 p4l2 p4l3 (0 : Int32))
def f_X1_countedMost (h0 : Nat) (x1 : Int32) (k : Int32 → ZM → Prop) : ZM → Prop :=
  f_X1_countedMost_L4 h0 x1 k (0 : Int32) (0 : Int32)
def f_X1_commonest_L4 (h0 : Nat) (k : Int32 → ZM → Prop) : Int32 → Int32 → ZM → Prop :=
  zw2 fun r4 p4l1 p4l2 =>
    zif ((16 : Int32) ≤ p4l2) (
      k p4l1) (
      zat 1 h0 <| f_X1_countedMost h0 p4l2 fun r12 =>
      zat 1 h0 <| f_X1_countedMost h0 p4l1 fun r17 =>
      zjn (fun (p28s0 : Int32) =>
          r4 p28s0 (p4l2 + (1 : Int32))) fun j28 =>
      zif (r12 ≤ r17) (
        j28 p4l1) (
        j28 p4l2))
def f_X1_commonest (h0 : Nat) (k : Int32 → ZM → Prop) : ZM → Prop :=
  f_X1_commonest_L4 h0 k (0 : Int32) (1 : Int32)
def f_X1_most (h0 : Nat) (x1 : Int32) (k : Int32 → ZM → Prop) : ZM → Prop :=
  zgR 1 h0 5 fun g1 =>
  zif (g1 = 0) (
    k (-1000000 : Int32)) (
    zsw x1 0 [
      zat 1 h0 <| f_X1_greatestRows h0 fun r49 =>
      k r49,
      zat 1 h0 <| f_X1_mostDrifted h0 fun r54 =>
      k r54,
      zat 1 h0 <| f_X1_greatestTotal h0 fun r59 =>
      k r59,
      zat 1 h0 <| f_X1_mostAlike h0 fun r64 =>
      k r64,
      zgR 1 h0 15 fun g69 =>
      zat 2 g69 <| f_X2_rows g69 fun r72 =>
      k r72,
      zat 1 h0 <| f_X1_commonest h0 fun r77 =>
      k r77] (
      k (-1000000 : Int32)))
def f_X1_image (h0 : Nat) (k : Int32 → ZM → Prop) : ZM → Prop :=
  zgR 1 h0 5 fun g1 =>
  zif (g1 = 0) (
    k (-1 : Int32)) (
    zgR 1 h0 16 fun g10 =>
    zgR 1 h0 15 fun g14 =>
    zat 2 g10 <| f_X2_becomes g10 g14 <|
    zpZ 1 h0 28 (1 : Int32) <|
    zgR 1 h0 15 fun g26 =>
    zat 2 g26 <| f_X2_rows g26 fun r29 =>
    k r29)
def f_X1_back (h0 : Nat) (k : Int32 → ZM → Prop) : ZM → Prop :=
  zgI 1 h0 28 fun g1 =>
  zif (g1 = 0) (
    k (-1 : Int32)) (
    zgR 1 h0 15 fun g10 =>
    zgR 1 h0 16 fun g14 =>
    zat 2 g10 <| f_X2_becomes g10 g14 <|
    zpI 1 h0 19 (0 : Int32) <|
    zgR 1 h0 15 fun g26 =>
    zat 2 g26 <| f_X2_rows g26 fun r29 =>
    k r29)
def f_X1_count (h0 : Nat) (x1 : Int32) (k : Int32 → ZM → Prop) : ZM → Prop :=
  zsw x1 0 [
    zgR 1 h0 5 fun g41 =>
    zjn (fun (p58s0 : Int32) =>
        k p58s0) fun j58 =>
    zif (g41 = 0) (
      j58 (0 : Int32)) (
      zgR 1 h0 5 fun g52 =>
      zgI 9 g52 3 fun g55 =>
      j58 g55),
    zgI 1 h0 4 fun g60 =>
    k g60,
    zgI 1 h0 1 fun g65 =>
    k g65,
    zgR 1 h0 5 fun g70 =>
    zjn (fun (p87s0 : Int32) =>
        k p87s0) fun j87 =>
    zif (g70 = 0) (
      j87 (0 : Int32)) (
      zgR 1 h0 15 fun g81 =>
      zgI 2 g81 3 fun g84 =>
      j87 g84),
    zgI 1 h0 19 fun g89 =>
    k g89,
    zgI 1 h0 24 fun g94 =>
    k g94] (
    k (-1000000 : Int32))
def f_X1_table (h0 : Nat) (x1 : Int32) (x2 : Int32) (kx : Nat → ZM → Prop) (k : Int32 → ZM → Prop) : ZM → Prop :=
  zat 1 h0 <| f_X1_isTable h0 x1 fun r2 =>
  zjn (
      zthN kx) fun j20 =>
  zif (r2 = 0) (
    j20) (
    f_X1_isIn x2.toInt64 (0 : Int64) (3 : Int64) fun r14 =>
    zif (r14 = 0) (
      j20) (
      zat 1 h0 <| f_X1_sheet h0 x1 fun r30 =>
      zjn (fun (p64s0 : Int32) =>
          k p64s0) fun j64 =>
      zif (x2 = 0) (
        zgI 3 r30 3 fun g39 =>
        j64 g39) (
        zif (x2 = (1 : Int32)) (
          zgI 3 r30 2 fun g51 =>
          j64 g51) (
          zat 3 r30 <| f_X3_missing r30 (x2 - (2 : Int32)) fun r61 =>
          j64 r61))))
