section ZWalk
variable {p : Program} {l : Launch} {e : Env} {R : Room} {s : State} {m : MethodId} {args : Array Value} {below : List Frame} {meth : Method} {c : Code} {Q : State → Prop} {nL : Nat} {D : ZD} {A : Nat → Prop} {al : Bool} {n0 : Nat × Nat × Nat} {cc : ByteArray} {nm : String} {ret : Option FieldType} {sz mc ms fr lo : Nat}
variable {P : ZM → Prop} {pc : Nat} {L : List (Nat × Value)} {st : List Value}
theorem pfX9_9 (F : ZF p R s m args meth c cc nL "SafeBucketsModel" "<init>" ret D A al sz mc ms fr lo) {z : Nat} {u : Nat} (hdg : decode cc pc = .ok (.putfield 9, 3)) (k : ZW p l e R s m args below meth c Q nL D A al n0 P (pc + 3) L st) : ZW p l e R s m args below meth c Q nL D A al n0 (zpR 7 z 1 u P) pc L (zv u :: zv z :: st) :=
  Z.putRF F (ref := "SafeBucketsModel") in_X9 (ci := 6) rfl (by decide) (kf := 1) (by decide) q1571 (fun _ h => h) tyX9 tyX9_ok nmX9 rfl rfl rfl (ty := .array _) (fun u => zv_narA u) (fun u => zv_fitA u) rfl rfl hdg k
theorem pfX9_13 (F : ZF p R s m args meth c cc nL "SafeBucketsModel" "<init>" ret D A al sz mc ms fr lo) {z : Nat} {u : Nat} (hdg : decode cc pc = .ok (.putfield 13, 3)) (k : ZW p l e R s m args below meth c Q nL D A al n0 P (pc + 3) L st) : ZW p l e R s m args below meth c Q nL D A al n0 (zpR 7 z 5 u P) pc L (zv u :: zv z :: st) :=
  Z.putRF F (ref := "SafeBucketsModel") in_X9 (ci := 6) rfl (by decide) (kf := 5) (by decide) q1575 (fun _ h => h) tyX9 tyX9_ok nmX9 rfl rfl rfl (ty := .array _) (fun u => zv_narA u) (fun u => zv_fitA u) rfl rfl hdg k
theorem pfX9_16 (F : ZF p R s m args meth c cc nL "SafeBucketsModel" "<init>" ret D A al sz mc ms fr lo) {z : Nat} {u : Nat} (hdg : decode cc pc = .ok (.putfield 16, 3)) (k : ZW p l e R s m args below meth c Q nL D A al n0 P (pc + 3) L st) : ZW p l e R s m args below meth c Q nL D A al n0 (zpR 7 z 6 u P) pc L (zv u :: zv z :: st) :=
  Z.putRF F (ref := "SafeBucketsModel") in_X9 (ci := 6) rfl (by decide) (kf := 6) (by decide) q1576 (fun _ h => h) tyX9 tyX9_ok nmX9 rfl rfl rfl (ty := .array _) (fun u => zv_narA u) (fun u => zv_fitA u) rfl rfl hdg k
theorem pfX9_19 (F : ZF p R s m args meth c cc nL "SafeBucketsModel" "<init>" ret D A al sz mc ms fr lo) {z : Nat} {u : Nat} (hdg : decode cc pc = .ok (.putfield 19, 3)) (k : ZW p l e R s m args below meth c Q nL D A al n0 P (pc + 3) L st) : ZW p l e R s m args below meth c Q nL D A al n0 (zpR 7 z 7 u P) pc L (zv u :: zv z :: st) :=
  Z.putRF F (ref := "SafeBucketsModel") in_X9 (ci := 6) rfl (by decide) (kf := 7) (by decide) q1577 (fun _ h => h) tyX9 tyX9_ok nmX9 rfl rfl rfl (ty := .array _) (fun u => zv_narA u) (fun u => zv_fitA u) rfl rfl hdg k
theorem pfX9_22 (F : ZF p R s m args meth c cc nL "SafeBucketsModel" "<init>" ret D A al sz mc ms fr lo) {z : Nat} {u : Nat} (hdg : decode cc pc = .ok (.putfield 22, 3)) (k : ZW p l e R s m args below meth c Q nL D A al n0 P (pc + 3) L st) : ZW p l e R s m args below meth c Q nL D A al n0 (zpR 7 z 10 u P) pc L (zv u :: zv z :: st) :=
  Z.putRF F (ref := "SafeBucketsModel") in_X9 (ci := 6) rfl (by decide) (kf := 10) (by decide) q1580 (fun _ h => h) tyX9 tyX9_ok nmX9 rfl rfl rfl (ty := .array _) (fun u => zv_narA u) (fun u => zv_fitA u) rfl rfl hdg k
theorem pfX9_25 (F : ZF p R s m args meth c cc nL "SafeBucketsModel" "<init>" ret D A al sz mc ms fr lo) {z : Nat} {u : Nat} (hdg : decode cc pc = .ok (.putfield 25, 3)) (k : ZW p l e R s m args below meth c Q nL D A al n0 P (pc + 3) L st) : ZW p l e R s m args below meth c Q nL D A al n0 (zpR 7 z 11 u P) pc L (zv u :: zv z :: st) :=
  Z.putRF F (ref := "SafeBucketsModel") in_X9 (ci := 6) rfl (by decide) (kf := 11) (by decide) q1581 (fun _ h => h) tyX9 tyX9_ok nmX9 rfl rfl rfl (ty := .array _) (fun u => zv_narA u) (fun u => zv_fitA u) rfl rfl hdg k
theorem pfX9_28 (F : ZF p R s m args meth c cc nL "SafeBucketsModel" "<init>" ret D A al sz mc ms fr lo) {z : Nat} {u : Nat} (hdg : decode cc pc = .ok (.putfield 28, 3)) (k : ZW p l e R s m args below meth c Q nL D A al n0 P (pc + 3) L st) : ZW p l e R s m args below meth c Q nL D A al n0 (zpR 7 z 13 u P) pc L (zv u :: zv z :: st) :=
  Z.putRF F (ref := "SafeBucketsModel") in_X9 (ci := 6) rfl (by decide) (kf := 13) (by decide) q1583 (fun _ h => h) tyX9 tyX9_ok nmX9 rfl rfl rfl (ty := .array _) (fun u => zv_narA u) (fun u => zv_fitA u) rfl rfl hdg k
theorem pfX9_31 (F : ZF p R s m args meth c cc nL "SafeBucketsModel" "<init>" ret D A al sz mc ms fr lo) {z : Nat} {u : Nat} (hdg : decode cc pc = .ok (.putfield 31, 3)) (k : ZW p l e R s m args below meth c Q nL D A al n0 P (pc + 3) L st) : ZW p l e R s m args below meth c Q nL D A al n0 (zpR 7 z 14 u P) pc L (zv u :: zv z :: st) :=
  Z.putRF F (ref := "SafeBucketsModel") in_X9 (ci := 6) rfl (by decide) (kf := 14) (by decide) q1584 (fun _ h => h) tyX9 tyX9_ok nmX9 rfl rfl rfl (ty := .array _) (fun u => zv_narA u) (fun u => zv_fitA u) rfl rfl hdg k
theorem pfX9_34 (F : ZF p R s m args meth c cc nL "SafeBucketsModel" "<init>" ret D A al sz mc ms fr lo) {z : Nat} {u : Nat} (hdg : decode cc pc = .ok (.putfield 34, 3)) (k : ZW p l e R s m args below meth c Q nL D A al n0 P (pc + 3) L st) : ZW p l e R s m args below meth c Q nL D A al n0 (zpR 7 z 16 u P) pc L (zv u :: zv z :: st) :=
  Z.putRF F (ref := "SafeBucketsModel") in_X9 (ci := 6) rfl (by decide) (kf := 16) (by decide) q1586 (fun _ h => h) tyX9 tyX9_ok nmX9 rfl rfl rfl (ty := .array _) (fun u => zv_narA u) (fun u => zv_fitA u) rfl rfl hdg k
theorem pfX9_37 (F : ZF p R s m args meth c cc nL "SafeBucketsModel" "<init>" ret D A al sz mc ms fr lo) {z : Nat} {u : Nat} (hdg : decode cc pc = .ok (.putfield 37, 3)) (k : ZW p l e R s m args below meth c Q nL D A al n0 P (pc + 3) L st) : ZW p l e R s m args below meth c Q nL D A al n0 (zpR 7 z 17 u P) pc L (zv u :: zv z :: st) :=
  Z.putRF F (ref := "SafeBucketsModel") in_X9 (ci := 6) rfl (by decide) (kf := 17) (by decide) q1587 (fun _ h => h) tyX9 tyX9_ok nmX9 rfl rfl rfl (ty := .array _) (fun u => zv_narA u) (fun u => zv_fitA u) rfl rfl hdg k
theorem pfX9_40 (F : ZF p R s m args meth c cc nL "SafeBucketsModel" "<init>" ret D A al sz mc ms fr lo) {z : Nat} {u : Nat} (hdg : decode cc pc = .ok (.putfield 40, 3)) (k : ZW p l e R s m args below meth c Q nL D A al n0 P (pc + 3) L st) : ZW p l e R s m args below meth c Q nL D A al n0 (zpR 7 z 18 u P) pc L (zv u :: zv z :: st) :=
  Z.putRF F (ref := "SafeBucketsModel") in_X9 (ci := 6) rfl (by decide) (kf := 18) (by decide) q1588 (fun _ h => h) tyX9 tyX9_ok nmX9 rfl rfl rfl (ty := .array _) (fun u => zv_narA u) (fun u => zv_fitA u) rfl rfl hdg k
theorem pfX9_43 (F : ZF p R s m args meth c cc nL "SafeBucketsModel" "<init>" ret D A al sz mc ms fr lo) {z : Nat} {u : Nat} (hdg : decode cc pc = .ok (.putfield 43, 3)) (k : ZW p l e R s m args below meth c Q nL D A al n0 P (pc + 3) L st) : ZW p l e R s m args below meth c Q nL D A al n0 (zpR 7 z 20 u P) pc L (zv u :: zv z :: st) :=
  Z.putRF F (ref := "SafeBucketsModel") in_X9 (ci := 6) rfl (by decide) (kf := 20) (by decide) q1590 (fun _ h => h) tyX9 tyX9_ok nmX9 rfl rfl rfl (ty := .array _) (fun u => zv_narA u) (fun u => zv_fitA u) rfl rfl hdg k
theorem pfX9_47 (F : ZF p R s m args meth c cc nL "SafeBucketsModel" "<init>" ret D A al sz mc ms fr lo) {z : Nat} {u : Nat} (hdg : decode cc pc = .ok (.putfield 47, 3)) (k : ZW p l e R s m args below meth c Q nL D A al n0 P (pc + 3) L st) : ZW p l e R s m args below meth c Q nL D A al n0 (zpR 7 z 21 u P) pc L (zv u :: zv z :: st) :=
  Z.putRF F (ref := "SafeBucketsModel") in_X9 (ci := 6) rfl (by decide) (kf := 21) (by decide) q1591 (fun _ h => h) tyX9 tyX9_ok nmX9 rfl rfl rfl (ty := .array _) (fun u => zv_narA u) (fun u => zv_fitA u) rfl rfl hdg k
theorem pfX9_51 (F : ZF p R s m args meth c cc nL "SafeBucketsModel" "<init>" ret D A al sz mc ms fr lo) {z : Nat} {u : Nat} (hdg : decode cc pc = .ok (.putfield 51, 3)) (k : ZW p l e R s m args below meth c Q nL D A al n0 P (pc + 3) L st) : ZW p l e R s m args below meth c Q nL D A al n0 (zpR 7 z 22 u P) pc L (zv u :: zv z :: st) :=
  Z.putRF F (ref := "SafeBucketsModel") in_X9 (ci := 6) rfl (by decide) (kf := 22) (by decide) q1592 (fun _ h => h) tyX9 tyX9_ok nmX9 rfl rfl rfl (ty := .array _) (fun u => zv_narA u) (fun u => zv_fitA u) rfl rfl hdg k
theorem pfX9_54 (F : ZF p R s m args meth c cc nL "SafeBucketsModel" "<init>" ret D A al sz mc ms fr lo) {z : Nat} {u : Nat} (hdg : decode cc pc = .ok (.putfield 54, 3)) (k : ZW p l e R s m args below meth c Q nL D A al n0 P (pc + 3) L st) : ZW p l e R s m args below meth c Q nL D A al n0 (zpR 7 z 25 u P) pc L (zv u :: zv z :: st) :=
  Z.putRF F (ref := "SafeBucketsModel") in_X9 (ci := 6) rfl (by decide) (kf := 25) (by decide) q1595 (fun _ h => h) tyX9 tyX9_ok nmX9 rfl rfl rfl (ty := .array _) (fun u => zv_narA u) (fun u => zv_fitA u) rfl rfl hdg k
theorem pfX9_57 (F : ZF p R s m args meth c cc nL "SafeBucketsModel" "<init>" ret D A al sz mc ms fr lo) {z : Nat} {u : Nat} (hdg : decode cc pc = .ok (.putfield 57, 3)) (k : ZW p l e R s m args below meth c Q nL D A al n0 P (pc + 3) L st) : ZW p l e R s m args below meth c Q nL D A al n0 (zpR 7 z 29 u P) pc L (zv u :: zv z :: st) :=
  Z.putRF F (ref := "SafeBucketsModel") in_X9 (ci := 6) rfl (by decide) (kf := 29) (by decide) q1599 (fun _ h => h) tyX9 tyX9_ok nmX9 rfl rfl rfl (ty := .array _) (fun u => zv_narA u) (fun u => zv_fitA u) rfl rfl hdg k
theorem pfX9_60 (F : ZF p R s m args meth c cc nL "SafeBucketsModel" "<init>" ret D A al sz mc ms fr lo) {z : Nat} {u : Nat} (hdg : decode cc pc = .ok (.putfield 60, 3)) (k : ZW p l e R s m args below meth c Q nL D A al n0 P (pc + 3) L st) : ZW p l e R s m args below meth c Q nL D A al n0 (zpR 7 z 30 u P) pc L (zv u :: zv z :: st) :=
  Z.putRF F (ref := "SafeBucketsModel") in_X9 (ci := 6) rfl (by decide) (kf := 30) (by decide) q1600 (fun _ h => h) tyX9 tyX9_ok nmX9 rfl rfl rfl (ty := .array _) (fun u => zv_narA u) (fun u => zv_fitA u) rfl rfl hdg k
theorem pfX9_63 (F : ZF p R s m args meth c cc nL "SafeBucketsModel" "<init>" ret D A al sz mc ms fr lo) {z : Nat} {u : Nat} (hdg : decode cc pc = .ok (.putfield 63, 3)) (k : ZW p l e R s m args below meth c Q nL D A al n0 P (pc + 3) L st) : ZW p l e R s m args below meth c Q nL D A al n0 (zpR 7 z 31 u P) pc L (zv u :: zv z :: st) :=
  Z.putRF F (ref := "SafeBucketsModel") in_X9 (ci := 6) rfl (by decide) (kf := 31) (by decide) q1601 (fun _ h => h) tyX9 tyX9_ok nmX9 rfl rfl rfl (ty := .array _) (fun u => zv_narA u) (fun u => zv_fitA u) rfl rfl hdg k
set_option maxHeartbeats 4000000 in
theorem k_X9_init (l : Launch) (h0 : Nat) : ZCv l yX9_init (ws_ yX9_init cX9_init 1 none) 1 20 18 54537 true [zv h0] (f_X9_init h0) := by
  refine Z.metV (by decide +kernel) (fun h => by cases h) (L0 := [(0, zv h0)]) (by first | (rw [zla_v, zla_0]; done) | (rw [zla_v, zla_0]; rfl)) (by rw [zsl_v, zsl_0]; exact Nat.le_of_ble_eq_true rfl) ?_
  intro p e R s m args below meth c D A n0 sz k F
  have F : ZF p R s m args meth c cX9_init 1 "SafeBucketsModel" "<init>" none D A true sz 18 54537 1 20 := F
  unfold f_X9_init
  refine Z.aload_n F 0 rfl dX9_init_0 ?_
  refine Z.objI F q1568 (Nat.le_of_ble_eq_true rfl) (Nat.le_of_ble_eq_true rfl) (zlw4 (Nat.le_of_ble_eq_true rfl)) dX9_init_1 ?_
  refine Z.aload_n F 0 rfl dX9_init_4 ?_
  refine Z.sipush F (v := (240 : Int32)) (by decide) dX9_init_5 ?_
  refine Z.newA50 F dX9_init_8 (fun n8 => ?_)
  refine pfX9_9 F dX9_init_10 ?_
  refine Z.aload_n F 0 rfl dX9_init_13 ?_
  refine Z.iconst F (v := (3 : Int32)) (by decide) dX9_init_14 ?_
  refine Z.newA50 F dX9_init_15 (fun n15 => ?_)
  refine pfX9_13 F dX9_init_17 ?_
  refine Z.aload_n F 0 rfl dX9_init_20 ?_
  refine Z.iconst F (v := (3 : Int32)) (by decide) dX9_init_21 ?_
  refine Z.newA50 F dX9_init_22 (fun n22 => ?_)
  refine pfX9_16 F dX9_init_24 ?_
  refine Z.aload_n F 0 rfl dX9_init_27 ?_
  refine Z.bipush F (v := (80 : Int32)) (by decide) dX9_init_28 ?_
  refine Z.newA50 F dX9_init_30 (fun n30 => ?_)
  refine pfX9_19 F dX9_init_32 ?_
  refine Z.aload_n F 0 rfl dX9_init_35 ?_
  refine Z.iconst F (v := (3 : Int32)) (by decide) dX9_init_36 ?_
  refine Z.newA50 F dX9_init_37 (fun n37 => ?_)
  refine pfX9_22 F dX9_init_39 ?_
  refine Z.aload_n F 0 rfl dX9_init_42 ?_
  refine Z.iconst F (v := (3 : Int32)) (by decide) dX9_init_43 ?_
  refine Z.newA50 F dX9_init_44 (fun n44 => ?_)
  refine pfX9_25 F dX9_init_46 ?_
  refine Z.aload_n F 0 rfl dX9_init_49 ?_
  refine Z.bipush F (v := (120 : Int32)) (by decide) dX9_init_50 ?_
  refine Z.newA50 F dX9_init_52 (fun n52 => ?_)
  refine pfX9_28 F dX9_init_54 ?_
  refine Z.aload_n F 0 rfl dX9_init_57 ?_
  refine Z.iconst F (v := (5 : Int32)) (by decide) dX9_init_58 ?_
  refine Z.newA50 F dX9_init_59 (fun n59 => ?_)
  refine pfX9_31 F dX9_init_61 ?_
  refine Z.aload_n F 0 rfl dX9_init_64 ?_
  refine Z.sipush F (v := (1253 : Int32)) (by decide) dX9_init_65 ?_
  refine Z.newA50 F dX9_init_68 (fun n68 => ?_)
  refine pfX9_34 F dX9_init_70 ?_
  refine Z.aload_n F 0 rfl dX9_init_73 ?_
  refine Z.iconst F (v := (5 : Int32)) (by decide) dX9_init_74 ?_
  refine Z.newA50 F dX9_init_75 (fun n75 => ?_)
  refine pfX9_37 F dX9_init_77 ?_
  refine Z.aload_n F 0 rfl dX9_init_80 ?_
  refine Z.bipush F (v := (16 : Int32)) (by decide) dX9_init_81 ?_
  refine Z.newA50 F dX9_init_83 (fun n83 => ?_)
  refine pfX9_40 F dX9_init_85 ?_
  refine Z.aload_n F 0 rfl dX9_init_88 ?_
  refine Z.sipush F (v := (306 : Int32)) (by decide) dX9_init_89 ?_
  refine Z.newA51 F dX9_init_92 (fun n92 => ?_)
  refine pfX9_43 F dX9_init_94 ?_
  refine Z.aload_n F 0 rfl dX9_init_97 ?_
  refine Z.bipush F (v := (17 : Int32)) (by decide) dX9_init_98 ?_
  refine Z.newA50 F dX9_init_100 (fun n100 => ?_)
  refine pfX9_47 F dX9_init_102 ?_
  refine Z.aload_n F 0 rfl dX9_init_105 ?_
  refine Z.ldcI F q1569 dX9_init_106 ?_
  refine Z.newA50 F dX9_init_108 (fun n108 => ?_)
  refine pfX9_51 F dX9_init_110 ?_
  refine Z.aload_n F 0 rfl dX9_init_113 ?_
  refine Z.bipush F (v := (6 : Int32)) (by decide) dX9_init_114 ?_
  refine Z.newA50 F dX9_init_116 (fun n116 => ?_)
  refine pfX9_54 F dX9_init_118 ?_
  refine Z.aload_n F 0 rfl dX9_init_121 ?_
  refine Z.bipush F (v := (32 : Int32)) (by decide) dX9_init_122 ?_
  refine Z.newA50 F dX9_init_124 (fun n124 => ?_)
  refine pfX9_57 F dX9_init_126 ?_
  refine Z.aload_n F 0 rfl dX9_init_129 ?_
  refine Z.sipush F (v := (1072 : Int32)) (by decide) dX9_init_130 ?_
  refine Z.newA50 F dX9_init_133 (fun n133 => ?_)
  refine pfX9_60 F dX9_init_135 ?_
  refine Z.aload_n F 0 rfl dX9_init_138 ?_
  refine Z.sipush F (v := (1253 : Int32)) (by decide) dX9_init_139 ?_
  refine Z.newA50 F dX9_init_142 (fun n142 => ?_)
  refine pfX9_63 F dX9_init_144 ?_
  exact Z.vret F dX9_init_147
theorem gfX9_66 (F : ZF p R s m args meth c cc nL "SafeBucketsModel" nm ret D A al sz mc ms fr lo) {z : Nat} {K : Int32 → ZM → Prop} (hdg : decode cc pc = .ok (.getfield 66, 3)) (k : ∀ u, ZW p l e R s m args below meth c Q nL D A al n0 (K u) (pc + 3) L (.int u :: st)) : ZW p l e R s m args below meth c Q nL D A al n0 (zgI 7 z 0 K) pc L (zv z :: st) :=
  Z.getI F (ref := "SafeBucketsModel") in_X9 (ci := 6) rfl (by decide) (kf := 0) (by decide) q1570 (fun _ h => h) rfl hdg k
set_option maxHeartbeats 4000000 in
theorem k_X9_thrown (l : Launch) (h0 : Nat) : ZCi l yX9_thrown (ws_ yX9_thrown cX9_thrown 1 (some .int)) 0 0 0 0 false [zv h0] (f_X9_thrown h0) := by
  refine Z.metI (by decide +kernel) (fun h => ⟨rfl, rfl⟩) (L0 := [(0, zv h0)]) (by first | (rw [zla_v, zla_0]; done) | (rw [zla_v, zla_0]; rfl)) (by rw [zsl_v, zsl_0]; exact Nat.le_of_ble_eq_true rfl) ?_
  intro p e R s m args below meth c D A n0 sz k F
  have F : ZF p R s m args meth c cX9_thrown 1 "SafeBucketsModel" "thrown" (some .int) D A false sz 0 0 0 0 := F
  unfold f_X9_thrown
  refine Z.aload_n F 0 rfl dX9_thrown_0 ?_
  refine gfX9_66 F dX9_thrown_1 (fun g1 => ?_)
  exact Z.iret F dX9_thrown_4
set_option maxHeartbeats 4000000 in
theorem k_X9_byteOf (l : Launch) (x0 : Int32) (x1 : Int32) (x2 : Int32) (x3 : Int32) (x4 : Int32) (x5 : Int32) : ZCi l yX9_byteOf (ws_ yX9_byteOf cX9_byteOf 7 (some .int)) 0 0 0 0 false [.int x0, .int x1, .int x2, .int x3, .int x4, .int x5] (f_X9_byteOf x0 x1 x2 x3 x4 x5) := by
  refine Z.metI (by decide +kernel) (fun h => ⟨rfl, rfl⟩) (L0 := [(0, .int x0), (1, .int x1), (2, .int x2), (3, .int x3), (4, .int x4), (5, .int x5)]) (by first | (rw [zla_i, zla_i, zla_i, zla_i, zla_i, zla_i, zla_0]; done) | (rw [zla_i, zla_i, zla_i, zla_i, zla_i, zla_i, zla_0]; rfl)) (by rw [zsl_i, zsl_i, zsl_i, zsl_i, zsl_i, zsl_i, zsl_0]; exact Nat.le_of_ble_eq_true rfl) ?_
  intro p e R s m args below meth c D A n0 sz k F
  have F : ZF p R s m args meth c cX9_byteOf 7 "SafeBucketsModel" "byteOf" (some .int) D A false sz 0 0 0 0 := F
  unfold f_X9_byteOf
  refine Z.iload F 5 rfl dX9_byteOf_0 ?_
  refine Z.iconst F (v := (4 : Int32)) (by decide) dX9_byteOf_2 ?_
  refine Z.jn1 (J := _) (fun p45s0 => [(5, .int x5)]) (fun p45s0 => [.int p45s0]) 45 (fun p45s0 => ?_) (fun j45 hj45 => ?_)
  · refine Z.istore F (L0 := [(5, .int x5)]) [0] rfl (zkI rfl zkN) (by decide) dX9_byteOf_45 ?_
    refine Z.iload F 0 rfl dX9_byteOf_47 ?_
    refine Z.bipush F (v := (24 : Int32)) (by decide) dX9_byteOf_49 ?_
    refine Z.bipush F (v := (8 : Int32)) (by decide) dX9_byteOf_51 ?_
    refine Z.iload F 1 rfl dX9_byteOf_53 ?_
    refine Z.iconst F (v := (4 : Int32)) (by decide) dX9_byteOf_55 ?_
    refine Z.irem F dX9_byteOf_56 ?_
    refine Z.imul F dX9_byteOf_57 ?_
    refine Z.isub F dX9_byteOf_58 ?_
    refine Z.ishr F dX9_byteOf_59 ?_
    refine Z.nmI (fun v59 => ?_)
    refine Z.sipush F (v := (255 : Int32)) (by decide) dX9_byteOf_60 ?_
    refine Z.iand F dX9_byteOf_63 ?_
    exact Z.iret F dX9_byteOf_64
  refine Z.icmp_ge F (tgt := 10) dX9_byteOf_3 (by decide) ?_ ?_
  · refine Z.iload F 5 rfl dX9_byteOf_10 ?_
    refine Z.bipush F (v := (8 : Int32)) (by decide) dX9_byteOf_12 ?_
    refine Z.icmp_ge F (tgt := 21) dX9_byteOf_14 (by decide) ?_ ?_
    · refine Z.iload F 5 rfl dX9_byteOf_21 ?_
      refine Z.bipush F (v := (12 : Int32)) (by decide) dX9_byteOf_23 ?_
      refine Z.icmp_ge F (tgt := 32) dX9_byteOf_25 (by decide) ?_ ?_
      · refine Z.iload F 5 rfl dX9_byteOf_32 ?_
        refine Z.bipush F (v := (16 : Int32)) (by decide) dX9_byteOf_34 ?_
        refine Z.icmp_ge F (tgt := 43) dX9_byteOf_36 (by decide) ?_ ?_
        · refine Z.iload F 4 rfl dX9_byteOf_43 ?_
          exact Z.sub [5] rfl (hj45 x4)
        refine Z.iload_n F 3 rfl dX9_byteOf_39 ?_
        refine Z.goto F (tgt := 45) dX9_byteOf_40 (by decide) ?_
        exact Z.sub [5] rfl (hj45 x3)
      refine Z.iload_n F 2 rfl dX9_byteOf_28 ?_
      refine Z.goto F (tgt := 45) dX9_byteOf_29 (by decide) ?_
      exact Z.sub [5] rfl (hj45 x2)
    refine Z.iload_n F 1 rfl dX9_byteOf_17 ?_
    refine Z.goto F (tgt := 45) dX9_byteOf_18 (by decide) ?_
    exact Z.sub [5] rfl (hj45 x1)
  refine Z.iload_n F 0 rfl dX9_byteOf_6 ?_
  refine Z.goto F (tgt := 45) dX9_byteOf_7 (by decide) ?_
  exact Z.sub [5] rfl (hj45 x0)
theorem gfX9_74 (F : ZF p R s m args meth c cc nL "SafeBucketsModel" nm ret D A al sz mc ms fr lo) {z : Nat} {K : Int32 → ZM → Prop} (hdg : decode cc pc = .ok (.getfield 74, 3)) (k : ∀ u, ZW p l e R s m args below meth c Q nL D A al n0 (K u) (pc + 3) L (.int u :: st)) : ZW p l e R s m args below meth c Q nL D A al n0 (zgI 7 z 2 K) pc L (zv z :: st) :=
  Z.getI F (ref := "SafeBucketsModel") in_X9 (ci := 6) rfl (by decide) (kf := 2) (by decide) q1572 (fun _ h => h) rfl hdg k
theorem clX9_70 (F : ZF p R s m args meth c cc nL "SafeBucketsModel" nm ret D A al sz mc ms fr lo) {x0 : Int32} {x1 : Int32} {x2 : Int32} {x3 : Int32} {x4 : Int32} {x5 : Int32} {K : Int32 → ZM → Prop} (hR : 0 + 1 ≤ fr ∧ 8 + (7 + 11) + 0 ≤ lo) (hst4 : zlw st) (hdg : decode cc pc = .ok (.invokestatic 70, 3)) (k : ∀ r, ZW p l e R s m args below meth c Q nL D A al n0 (K r) (pc + 3) L (.int r :: st)) : ZW p l e R s m args below meth c Q nL D A al n0 (f_X9_byteOf x0 x1 x2 x3 x4 x5 K) pc L (.int x5 :: .int x4 :: .int x3 :: .int x2 :: .int x1 :: .int x0 :: st) :=
  Z.ri0 _ (fun μ H locs cells slots ls hI h hP => Z.S0 F hI (n := 6) hP (k_X9_byteOf l x0 x1 x2 x3 x4 x5 D A (zX μ, zC μ, zS μ) H.size K μ) q1678 q1679 q126 q1680 (by decide +kernel) rfl h.1 hst4 hR rfl hdg) k
theorem gfX9_9 (F : ZF p R s m args meth c cc nL "SafeBucketsModel" nm ret D A al sz mc ms fr lo) {z : Nat} {K : Nat → ZM → Prop} (hdg : decode cc pc = .ok (.getfield 9, 3)) (k : ∀ u, ZW p l e R s m args below meth c Q nL D A al n0 (K u) (pc + 3) L (zv u :: st)) : ZW p l e R s m args below meth c Q nL D A al n0 (zgR 7 z 1 K) pc L (zv z :: st) :=
  Z.getR F (ref := "SafeBucketsModel") in_X9 (ci := 6) rfl (by decide) (kf := 1) (by decide) q1571 (fun _ h => h) rfl hdg k
theorem pfX9_74 (F : ZF p R s m args meth c cc nL "SafeBucketsModel" nm ret D A al sz mc ms fr lo) {z : Nat} {u : Int32} (hdg : decode cc pc = .ok (.putfield 74, 3)) (k : ZW p l e R s m args below meth c Q nL D A al n0 P (pc + 3) L st) : ZW p l e R s m args below meth c Q nL D A al n0 (zpI 7 z 2 u P) pc L (.int u :: zv z :: st) :=
  Z.putI F (ref := "SafeBucketsModel") in_X9 (ci := 6) rfl (by decide) (kf := 2) (by decide) q1572 (fun _ h => h) tyX9 tyX9_ok nmX9 rfl rfl rfl hdg k
set_option maxHeartbeats 4000000 in
theorem k_X9_feed (l : Launch) (h0 : Nat) (x1 : Int32) (x2 : Int32) (x3 : Int32) (x4 : Int32) (x5 : Int32) : ZCi l yX9_feed (ws_ yX9_feed cX9_feed 9 (some .int)) 1 26 0 0 false [zv h0, .int x1, .int x2, .int x3, .int x4, .int x5] (f_X9_feed h0 x1 x2 x3 x4 x5) := by
  refine Z.metI (by decide +kernel) (fun h => ⟨rfl, rfl⟩) (L0 := [(0, zv h0), (1, .int x1), (2, .int x2), (3, .int x3), (4, .int x4), (5, .int x5)]) (by first | (rw [zla_v, zla_i, zla_i, zla_i, zla_i, zla_i, zla_0]; done) | (rw [zla_v, zla_i, zla_i, zla_i, zla_i, zla_i, zla_0]; rfl)) (by rw [zsl_v, zsl_i, zsl_i, zsl_i, zsl_i, zsl_i, zsl_0]; exact Nat.le_of_ble_eq_true rfl) ?_
  intro p e R s m args below meth c D A n0 sz k F
  have F : ZF p R s m args meth c cX9_feed 9 "SafeBucketsModel" "feed" (some .int) D A false sz 0 0 1 26 := F
  unfold f_X9_feed
  refine Z.iconst F (v := (0 : Int32)) (by decide) dX9_feed_0 ?_
  refine Z.istore F (L0 := [(0, zv h0), (1, .int x1), (2, .int x2), (3, .int x3), (4, .int x4), (5, .int x5)]) [0, 1, 2, 3, 4, 5] rfl (zkR rfl (zkI rfl (zkI rfl (zkI rfl (zkI rfl (zkI rfl zkN)))))) (by decide) dX9_feed_1 ?_
  refine Z.iconst F (v := (0 : Int32)) (by decide) dX9_feed_3 ?_
  refine Z.istore F (L0 := [(6, .int (0 : Int32)), (0, zv h0), (1, .int x1), (2, .int x2), (3, .int x3), (4, .int x4), (5, .int x5)]) [0, 1, 2, 3, 4, 5, 6] rfl (zkI rfl (zkR rfl (zkI rfl (zkI rfl (zkI rfl (zkI rfl (zkI rfl zkN))))))) (by decide) dX9_feed_4 ?_
  refine Z.jn1 (J := _) (fun p44l6 => [(0, zv h0), (1, .int x1), (2, .int x2), (3, .int x3), (4, .int x4), (5, .int x5), (6, .int p44l6)]) (fun p44l6 => []) 44 (fun p44l6 => ?_) (fun j44 hj44 => ?_)
  · refine Z.aload_n F 0 rfl dX9_feed_44 ?_
    refine gfX9_74 F dX9_feed_45 (fun g45 => ?_)
    refine Z.iload F 6 rfl dX9_feed_48 ?_
    refine Z.iadd F dX9_feed_50 ?_
    refine Z.sipush F (v := (240 : Int32)) (by decide) dX9_feed_51 ?_
    refine Z.icmp_le F (tgt := 59) dX9_feed_54 (by decide) ?_ ?_
    · refine Z.iconst F (v := (0 : Int32)) (by decide) dX9_feed_59 ?_
      refine Z.istore F (L0 := [(0, zv h0), (1, .int x1), (2, .int x2), (3, .int x3), (4, .int x4), (5, .int x5), (6, .int p44l6)]) [0, 1, 2, 3, 4, 5, 6] rfl (zkR rfl (zkI rfl (zkI rfl (zkI rfl (zkI rfl (zkI rfl (zkI rfl zkN))))))) (by decide) dX9_feed_60 ?_
      refine Z.sub [1, 2, 3, 4, 5, 6, 0] rfl ?_
      refine Z.w1 (Lf := fun p62l7 => [(0, zv h0), (1, .int x1), (2, .int x2), (3, .int x3), (4, .int x4), (5, .int x5), (7, .int p62l7)]) (sf := fun p62l7 => []) (fun r62 hr62 p62l7 => ?_) (0 : Int32)
      refine Z.iload F 6 rfl dX9_feed_62 ?_
      refine Z.bipush F (v := (20 : Int32)) (by decide) dX9_feed_64 ?_
      refine Z.icmp_ge F (tgt := 115) dX9_feed_66 (by decide) ?_ ?_
      · refine Z.aload_n F 0 rfl dX9_feed_115 ?_
        refine gfX9_74 F dX9_feed_116 (fun g116 => ?_)
        exact Z.iret F dX9_feed_119
      refine Z.iload_n F 1 rfl dX9_feed_69 ?_
      refine Z.iload_n F 2 rfl dX9_feed_70 ?_
      refine Z.iload_n F 3 rfl dX9_feed_71 ?_
      refine Z.iload F 4 rfl dX9_feed_72 ?_
      refine Z.iload F 5 rfl dX9_feed_74 ?_
      refine Z.iload F 6 rfl dX9_feed_76 ?_
      refine clX9_70 F ⟨Nat.le_of_ble_eq_true rfl, Nat.le_of_ble_eq_true rfl⟩ (zlw4 (Nat.le_of_ble_eq_true rfl)) dX9_feed_78 (fun r78 => ?_)
      refine Z.istore F (L0 := [(0, zv h0), (1, .int x1), (2, .int x2), (3, .int x3), (4, .int x4), (5, .int x5), (7, .int p62l7)]) [0, 1, 2, 3, 4, 5, 6] rfl (zkR rfl (zkI rfl (zkI rfl (zkI rfl (zkI rfl (zkI rfl (zkI rfl zkN))))))) (by decide) dX9_feed_81 ?_
      refine Z.iload F 0 rfl dX9_feed_83 ?_
      refine Z.jn0 (J := _) ([(0, zv h0), (1, .int x1), (2, .int x2), (3, .int x3), (4, .int x4), (5, .int x5), (7, .int p62l7)]) ([]) 109 (?_) (fun j109 hj109 => ?_)
      · refine Z.iinc F (L0 := [(0, zv h0), (1, .int x1), (2, .int x2), (3, .int x3), (4, .int x4), (5, .int x5)]) (k0 := 6) (v := (1 : Int32)) rfl (by decide) [0, 1, 2, 3, 4, 5] rfl (zkR rfl (zkI rfl (zkI rfl (zkI rfl (zkI rfl (zkI rfl zkN)))))) (by decide) dX9_feed_109 ?_
        refine Z.goto F (tgt := 62) dX9_feed_112 (by decide) ?_
        exact Z.sub [1, 2, 3, 4, 5, 6, 0] rfl (hr62 (p62l7 + (1 : Int32)))
      refine Z.if_eq F (tgt := 109) dX9_feed_85 (by decide) ?_ ?_
      · exact Z.sub [1, 2, 3, 4, 5, 6, 7] rfl (hj109)
      refine Z.aload_n F 1 rfl dX9_feed_88 ?_
      refine gfX9_9 F dX9_feed_89 (fun g89 => ?_)
      refine Z.aload_n F 1 rfl dX9_feed_92 ?_
      refine gfX9_74 F dX9_feed_93 (fun g93 => ?_)
      refine Z.iload F 0 rfl dX9_feed_96 ?_
      refine Z.iast F dX9_feed_98 ?_
      refine Z.aload_n F 1 rfl dX9_feed_99 ?_
      refine Z.dup F dX9_feed_100 ?_
      refine gfX9_74 F dX9_feed_101 (fun g101 => ?_)
      refine Z.iconst F (v := (1 : Int32)) (by decide) dX9_feed_104 ?_
      refine Z.iadd F dX9_feed_105 ?_
      refine pfX9_74 F dX9_feed_106 ?_
      exact Z.sub [1, 2, 3, 4, 5, 6, 7] rfl (hj109)
    refine Z.iconst F (v := (-1 : Int32)) (by decide) dX9_feed_57 ?_
    exact Z.iret F dX9_feed_58
  refine Z.sub [2, 3, 4, 5, 6, 7, 1, 0] rfl ?_
  refine Z.w2 (Lf := fun p6l6 p6l7 => [(0, zv h0), (1, .int x1), (2, .int x2), (3, .int x3), (4, .int x4), (5, .int x5), (6, .int p6l6), (7, .int p6l7)]) (sf := fun p6l6 p6l7 => []) (fun r6 hr6 p6l6 p6l7 => ?_) (0 : Int32) (0 : Int32)
  refine Z.iload F 7 rfl dX9_feed_6 ?_
  refine Z.bipush F (v := (20 : Int32)) (by decide) dX9_feed_8 ?_
  refine Z.icmp_ge F (tgt := 44) dX9_feed_10 (by decide) ?_ ?_
  · exact Z.sub [0, 1, 2, 3, 4, 5, 6] rfl (hj44 p6l6)
  refine Z.iload F 6 rfl dX9_feed_13 ?_
  refine Z.iload_n F 1 rfl dX9_feed_15 ?_
  refine Z.iload_n F 2 rfl dX9_feed_16 ?_
  refine Z.iload_n F 3 rfl dX9_feed_17 ?_
  refine Z.iload F 4 rfl dX9_feed_18 ?_
  refine Z.iload F 5 rfl dX9_feed_20 ?_
  refine Z.iload F 7 rfl dX9_feed_22 ?_
  refine clX9_70 F ⟨Nat.le_of_ble_eq_true rfl, Nat.le_of_ble_eq_true rfl⟩ (zlw4 (Nat.le_of_ble_eq_true rfl)) dX9_feed_24 (fun r24 => ?_)
  refine Z.jn1 (J := _) (fun p35s1 => [(0, zv h0), (1, .int x1), (2, .int x2), (3, .int x3), (4, .int x4), (5, .int x5), (7, .int p6l7)]) (fun p35s1 => [.int p35s1, .int p6l6]) 35 (fun p35s1 => ?_) (fun j35 hj35 => ?_)
  · refine Z.iadd F dX9_feed_35 ?_
    refine Z.istore F (L0 := [(0, zv h0), (1, .int x1), (2, .int x2), (3, .int x3), (4, .int x4), (5, .int x5), (7, .int p6l7)]) [0, 1, 2, 3, 4, 5, 6] rfl (zkR rfl (zkI rfl (zkI rfl (zkI rfl (zkI rfl (zkI rfl (zkI rfl zkN))))))) (by decide) dX9_feed_36 ?_
    refine Z.iinc F (L0 := [(6, .int (p6l6 + p35s1)), (0, zv h0), (1, .int x1), (2, .int x2), (3, .int x3), (4, .int x4), (5, .int x5)]) (k0 := 7) (v := (1 : Int32)) rfl (by decide) [0, 1, 2, 3, 4, 5, 6] rfl (zkI rfl (zkR rfl (zkI rfl (zkI rfl (zkI rfl (zkI rfl (zkI rfl zkN))))))) (by decide) dX9_feed_38 ?_
    refine Z.goto F (tgt := 6) dX9_feed_41 (by decide) ?_
    exact Z.sub [2, 3, 4, 5, 6, 7, 1, 0] rfl (hr6 (p6l6 + p35s1) (p6l7 + (1 : Int32)))
  refine Z.if_eq F (tgt := 34) dX9_feed_27 (by decide) ?_ ?_
  · refine Z.iconst F (v := (0 : Int32)) (by decide) dX9_feed_34 ?_
    exact Z.sub [0, 1, 2, 3, 4, 5, 7] rfl (hj35 (0 : Int32))
  refine Z.iconst F (v := (1 : Int32)) (by decide) dX9_feed_30 ?_
  refine Z.goto F (tgt := 35) dX9_feed_31 (by decide) ?_
  exact Z.sub [0, 1, 2, 3, 4, 5, 7] rfl (hj35 (1 : Int32))
set_option maxHeartbeats 4000000 in
theorem k_X9_in (l : Launch) (x0 : Int64) (x2 : Int64) (x4 : Int64) : ZCi l yX9_in (ws_ yX9_in cX9_in 6 (some .boolean)) 0 0 0 0 false [.long x0, .long x2, .long x4] (f_X9_in x0 x2 x4) := by
  refine Z.metZ (by decide +kernel) (fun h => ⟨rfl, rfl⟩) (L0 := [(0, .long x0), (2, .long x2), (4, .long x4)]) (by first | (rw [zla_l, zla_l, zla_l, zla_0]; done) | (rw [zla_l, zla_l, zla_l, zla_0]; rfl)) (by rw [zsl_l, zsl_l, zsl_l, zsl_0]; exact Nat.le_of_ble_eq_true rfl) ?_
  intro p e R s m args below meth c D A n0 sz k F
  have F : ZF p R s m args meth c cX9_in 6 "SafeBucketsModel" "in" (some .boolean) D A false sz 0 0 0 0 := F
  unfold f_X9_in
  refine Z.lload_n F 0 rfl dX9_in_0 ?_
  refine Z.lload_n F 1 rfl dX9_in_1 ?_
  refine Z.lcmp F dX9_in_2 ?_
  refine Z.jn1 (J := _) (fun p18s0 => []) (fun p18s0 => [.int p18s0]) 18 (fun p18s0 => ?_) (fun j18 hj18 => ?_)
  · exact Z.zret F dX9_in_18
  refine Z.jn0 (J := _) ([]) ([]) 17 (?_) (fun j17 hj17 => ?_)
  · refine Z.iconst F (v := (0 : Int32)) (by decide) dX9_in_17 ?_
    exact Z.sub [] rfl (hj18 (0 : Int32))
  refine Z.if_lt F (tgt := 17) dX9_in_3 (by decide) ?_ ?_
  · exact Z.sub [] rfl (hj17)
  refine Z.lload_n F 0 rfl dX9_in_6 ?_
  refine Z.lload F 2 rfl dX9_in_7 ?_
  refine Z.lcmp F dX9_in_9 ?_
  refine Z.if_gt F (tgt := 17) dX9_in_10 (by decide) ?_ ?_
  · exact Z.sub [] rfl (hj17)
  refine Z.iconst F (v := (1 : Int32)) (by decide) dX9_in_13 ?_
  refine Z.goto F (tgt := 18) dX9_in_14 (by decide) ?_
  exact Z.sub [] rfl (hj18 (1 : Int32))
theorem clX9_77 (F : ZF p R s m args meth c cc nL "SafeBucketsModel" nm ret D A al sz mc ms fr lo) {x0 : Int64} {x2 : Int64} {x4 : Int64} {K : Int32 → ZM → Prop} (hR : 0 + 1 ≤ fr ∧ 8 + (6 + 11) + 0 ≤ lo) (hst4 : zlw st) (hdg : decode cc pc = .ok (.invokestatic 77, 3)) (k : ∀ r, ZW p l e R s m args below meth c Q nL D A al n0 (K r) (pc + 3) L (.int r :: st)) : ZW p l e R s m args below meth c Q nL D A al n0 (f_X9_in x0 x2 x4 K) pc L (.long x4 :: .long x2 :: .long x0 :: st) :=
  Z.ri0 _ (fun μ H locs cells slots ls hI h hP => Z.S0 F hI (n := 3) hP (k_X9_in l x0 x2 x4 D A (zX μ, zC μ, zS μ) H.size K μ) q1685 q1686 q126 q1687 (by decide +kernel) rfl h.1 hst4 hR rfl hdg) k
set_option maxHeartbeats 4000000 in
theorem k_X9_end (l : Launch) (h0 : Nat) (x1 : Int32) : ZCi l yX9_end (ws_ yX9_end cX9_end 2 (some .boolean)) 1 25 0 0 false [zv h0, .int x1] (f_X9_end h0 x1) := by
  refine Z.metZ (by decide +kernel) (fun h => ⟨rfl, rfl⟩) (L0 := [(0, zv h0), (1, .int x1)]) (by first | (rw [zla_v, zla_i, zla_0]; done) | (rw [zla_v, zla_i, zla_0]; rfl)) (by rw [zsl_v, zsl_i, zsl_0]; exact Nat.le_of_ble_eq_true rfl) ?_
  intro p e R s m args below meth c D A n0 sz k F
  have F : ZF p R s m args meth c cX9_end 2 "SafeBucketsModel" "end" (some .boolean) D A false sz 0 0 1 25 := F
  unfold f_X9_end
  refine Z.iload_n F 1 rfl dX9_end_0 ?_
  refine Z.i2l F dX9_end_1 ?_
  refine Z.lconst F (w := (0 : Int64)) (by decide) dX9_end_2 ?_
  refine Z.aload_n F 0 rfl dX9_end_3 ?_
  refine gfX9_74 F dX9_end_4 (fun g4 => ?_)
  refine Z.i2l F dX9_end_7 ?_
  refine clX9_77 F ⟨Nat.le_of_ble_eq_true rfl, Nat.le_of_ble_eq_true rfl⟩ (zlw4 (Nat.le_of_ble_eq_true rfl)) dX9_end_8 (fun r8 => ?_)
  refine Z.if_ne F (tgt := 16) dX9_end_11 (by decide) ?_ ?_
  · refine Z.aload_n F 0 rfl dX9_end_16 ?_
    refine Z.iload_n F 1 rfl dX9_end_17 ?_
    refine pfX9_74 F dX9_end_18 ?_
    refine Z.iconst F (v := (1 : Int32)) (by decide) dX9_end_21 ?_
    exact Z.zret F dX9_end_22
  refine Z.iconst F (v := (0 : Int32)) (by decide) dX9_end_14 ?_
  exact Z.zret F dX9_end_15
set_option maxHeartbeats 4000000 in
theorem k_X9_usual (l : Launch) (x0 : Int32) (x1 : Int32) : ZCi l yX9_usual (ws_ yX9_usual cX9_usual 2 (some .int)) 0 0 0 0 false [.int x0, .int x1] (f_X9_usual x0 x1) := by
  refine Z.metI (by decide +kernel) (fun h => ⟨rfl, rfl⟩) (L0 := [(0, .int x0), (1, .int x1)]) (by first | (rw [zla_i, zla_i, zla_0]; done) | (rw [zla_i, zla_i, zla_0]; rfl)) (by rw [zsl_i, zsl_i, zsl_0]; exact Nat.le_of_ble_eq_true rfl) ?_
  intro p e R s m args below meth c D A n0 sz k F
  have F : ZF p R s m args meth c cX9_usual 2 "SafeBucketsModel" "usual" (some .int) D A false sz 0 0 0 0 := F
  unfold f_X9_usual
  refine Z.iload_n F 0 rfl dX9_usual_0 ?_
  refine Z.bipush F (v := (116 : Int32)) (by decide) dX9_usual_1 ?_
  refine Z.icmp_ne F (tgt := 9) dX9_usual_3 (by decide) ?_ ?_
  · refine Z.iload_n F 0 rfl dX9_usual_9 ?_
    refine Z.bipush F (v := (115 : Int32)) (by decide) dX9_usual_10 ?_
    refine Z.icmp_ne F (tgt := 37) dX9_usual_12 (by decide) ?_ ?_
    · refine Z.iload_n F 1 rfl dX9_usual_37 ?_
      refine Z.jn1 (J := _) (fun p55s0 => []) (fun p55s0 => [.int p55s0]) 55 (fun p55s0 => ?_) (fun j55 hj55 => ?_)
      · exact Z.iret F dX9_usual_55
      refine Z.if_ne F (tgt := 45) dX9_usual_38 (by decide) ?_ ?_
      · refine Z.iload_n F 1 rfl dX9_usual_45 ?_
        refine Z.iconst F (v := (3 : Int32)) (by decide) dX9_usual_46 ?_
        refine Z.icmp_ne F (tgt := 54) dX9_usual_47 (by decide) ?_ ?_
        · refine Z.iconst F (v := (-1 : Int32)) (by decide) dX9_usual_54 ?_
          exact Z.sub [] rfl (hj55 (-1 : Int32))
        refine Z.iconst F (v := (1 : Int32)) (by decide) dX9_usual_50 ?_
        refine Z.goto F (tgt := 55) dX9_usual_51 (by decide) ?_
        exact Z.sub [] rfl (hj55 (1 : Int32))
      refine Z.iconst F (v := (0 : Int32)) (by decide) dX9_usual_41 ?_
      refine Z.goto F (tgt := 55) dX9_usual_42 (by decide) ?_
      exact Z.sub [] rfl (hj55 (0 : Int32))
    refine Z.iload_n F 1 rfl dX9_usual_15 ?_
    refine Z.jn1 (J := _) (fun p36s0 => []) (fun p36s0 => [.int p36s0]) 36 (fun p36s0 => ?_) (fun j36 hj36 => ?_)
    · exact Z.iret F dX9_usual_36
    refine Z.if_ne F (tgt := 23) dX9_usual_16 (by decide) ?_ ?_
    · refine Z.iload_n F 1 rfl dX9_usual_23 ?_
      refine Z.iconst F (v := (1 : Int32)) (by decide) dX9_usual_24 ?_
      refine Z.icmp_ne F (tgt := 33) dX9_usual_25 (by decide) ?_ ?_
      · refine Z.sipush F (v := (999 : Int32)) (by decide) dX9_usual_33 ?_
        exact Z.sub [] rfl (hj36 (999 : Int32))
      refine Z.bipush F (v := (20 : Int32)) (by decide) dX9_usual_28 ?_
      refine Z.goto F (tgt := 36) dX9_usual_30 (by decide) ?_
      exact Z.sub [] rfl (hj36 (20 : Int32))
    refine Z.iconst F (v := (3 : Int32)) (by decide) dX9_usual_19 ?_
    refine Z.goto F (tgt := 36) dX9_usual_20 (by decide) ?_
    exact Z.sub [] rfl (hj36 (3 : Int32))
  refine Z.bipush F (v := (8 : Int32)) (by decide) dX9_usual_6 ?_
  exact Z.iret F dX9_usual_8
theorem gfX9_81 (F : ZF p R s m args meth c cc nL "SafeBucketsModel" nm ret D A al sz mc ms fr lo) {z : Nat} {K : Int32 → ZM → Prop} (hdg : decode cc pc = .ok (.getfield 81, 3)) (k : ∀ u, ZW p l e R s m args below meth c Q nL D A al n0 (K u) (pc + 3) L (.int u :: st)) : ZW p l e R s m args below meth c Q nL D A al n0 (zgI 7 z 3 K) pc L (zv z :: st) :=
  Z.getI F (ref := "SafeBucketsModel") in_X9 (ci := 6) rfl (by decide) (kf := 3) (by decide) q1573 (fun _ h => h) rfl hdg k
set_option maxHeartbeats 4000000 in
theorem k_X9_here (l : Launch) (h0 : Nat) : ZCi l yX9_here (ws_ yX9_here cX9_here 1 (some .int)) 0 0 0 0 false [zv h0] (f_X9_here h0) := by
  refine Z.metI (by decide +kernel) (fun h => ⟨rfl, rfl⟩) (L0 := [(0, zv h0)]) (by first | (rw [zla_v, zla_0]; done) | (rw [zla_v, zla_0]; rfl)) (by rw [zsl_v, zsl_0]; exact Nat.le_of_ble_eq_true rfl) ?_
  intro p e R s m args below meth c D A n0 sz k F
  have F : ZF p R s m args meth c cX9_here 1 "SafeBucketsModel" "here" (some .int) D A false sz 0 0 0 0 := F
  unfold f_X9_here
  refine Z.aload_n F 0 rfl dX9_here_0 ?_
  refine gfX9_81 F dX9_here_1 (fun g1 => ?_)
  refine Z.aload_n F 0 rfl dX9_here_4 ?_
  refine gfX9_74 F dX9_here_5 (fun g5 => ?_)
  refine Z.jn1 (J := _) (fun p24s0 => []) (fun p24s0 => [.int p24s0]) 24 (fun p24s0 => ?_) (fun j24 hj24 => ?_)
  · exact Z.iret F dX9_here_24
  refine Z.icmp_ge F (tgt := 23) dX9_here_8 (by decide) ?_ ?_
  · refine Z.iconst F (v := (-1 : Int32)) (by decide) dX9_here_23 ?_
    exact Z.sub [] rfl (hj24 (-1 : Int32))
  refine Z.aload_n F 0 rfl dX9_here_11 ?_
  refine gfX9_9 F dX9_here_12 (fun g12 => ?_)
  refine Z.aload_n F 0 rfl dX9_here_15 ?_
  refine gfX9_81 F dX9_here_16 (fun g16 => ?_)
  refine Z.iald F dX9_here_19 (fun g19 => ?_)
  refine Z.goto F (tgt := 24) dX9_here_20 (by decide) ?_
  exact Z.sub [] rfl (hj24 g19)
theorem clX9_84 (F : ZF p R s m args meth c cc nL "SafeBucketsModel" nm ret D A al sz mc ms fr lo) {h0 : Nat} {K : Int32 → ZM → Prop} (hR : 0 + 1 ≤ fr ∧ 8 + (1 + 11) + 0 ≤ lo) (hst4 : zlw st) (hdg : decode cc pc = .ok (.invokevirtual 84, 3)) (k : ∀ r, ZW p l e R s m args below meth c Q nL D A al n0 (K r) (pc + 3) L (.int r :: st)) : ZW p l e R s m args below meth c Q nL D A al n0 (zat 7 h0 (f_X9_here h0 K)) pc L (zv h0 :: st) :=
  Z.ri0 _ (fun μ H locs cells slots ls hI h hP => Z.V0 F hI (n := 0) (ci := 6) rfl (by decide) hP.1 hP.2 (k_X9_here l h0 D A (zX μ, zC μ, zS μ) H.size K μ) q1703 q1705 qs50 q126 q1706 (by decide +kernel) rfl h.1 hst4 hR rfl hdg) k
theorem pfX9_81 (F : ZF p R s m args meth c cc nL "SafeBucketsModel" nm ret D A al sz mc ms fr lo) {z : Nat} {u : Int32} (hdg : decode cc pc = .ok (.putfield 81, 3)) (k : ZW p l e R s m args below meth c Q nL D A al n0 P (pc + 3) L st) : ZW p l e R s m args below meth c Q nL D A al n0 (zpI 7 z 3 u P) pc L (.int u :: zv z :: st) :=
  Z.putI F (ref := "SafeBucketsModel") in_X9 (ci := 6) rfl (by decide) (kf := 3) (by decide) q1573 (fun _ h => h) tyX9 tyX9_ok nmX9 rfl rfl rfl hdg k
set_option maxHeartbeats 4000000 in
theorem k_X9_ahead (l : Launch) (h0 : Nat) : ZCi l yX9_ahead (ws_ yX9_ahead cX9_ahead 1 (some .int)) 1 20 0 0 false [zv h0] (f_X9_ahead h0) := by
  refine Z.metI (by decide +kernel) (fun h => ⟨rfl, rfl⟩) (L0 := [(0, zv h0)]) (by first | (rw [zla_v, zla_0]; done) | (rw [zla_v, zla_0]; rfl)) (by rw [zsl_v, zsl_0]; exact Nat.le_of_ble_eq_true rfl) ?_
  intro p e R s m args below meth c D A n0 sz k F
  have F : ZF p R s m args meth c cX9_ahead 1 "SafeBucketsModel" "ahead" (some .int) D A false sz 0 0 1 20 := F
  unfold f_X9_ahead
  refine Z.jn0 (J := _) ([(0, zv h0)]) ([]) 22 (?_) (fun j22 hj22 => ?_)
  · refine Z.aload_n F 0 rfl dX9_ahead_22 ?_
    refine clX9_84 F ⟨Nat.le_of_ble_eq_true rfl, Nat.le_of_ble_eq_true rfl⟩ (zlw4 (Nat.le_of_ble_eq_true rfl)) dX9_ahead_23 (fun r23 => ?_)
    exact Z.iret F dX9_ahead_26
  refine Z.sub [0] rfl ?_
  refine Z.w0 (Lf := [(0, zv h0)]) (sf := []) (fun r0 hr0 => ?_) 
  refine Z.aload_n F 0 rfl dX9_ahead_0 ?_
  refine clX9_84 F ⟨Nat.le_of_ble_eq_true rfl, Nat.le_of_ble_eq_true rfl⟩ (zlw4 (Nat.le_of_ble_eq_true rfl)) dX9_ahead_1 (fun r1 => ?_)
  refine Z.bipush F (v := (32 : Int32)) (by decide) dX9_ahead_4 ?_
  refine Z.icmp_ne F (tgt := 22) dX9_ahead_6 (by decide) ?_ ?_
  · exact Z.sub [0] rfl (hj22)
  refine Z.aload_n F 0 rfl dX9_ahead_9 ?_
  refine Z.dup F dX9_ahead_10 ?_
  refine gfX9_81 F dX9_ahead_11 (fun g11 => ?_)
  refine Z.iconst F (v := (1 : Int32)) (by decide) dX9_ahead_14 ?_
  refine Z.iadd F dX9_ahead_15 ?_
  refine pfX9_81 F dX9_ahead_16 ?_
  refine Z.goto F (tgt := 0) dX9_ahead_19 (by decide) ?_
  exact Z.sub [0] rfl (hr0)
set_option maxHeartbeats 4000000 in
theorem k_X9_itemOf (l : Launch) (x0 : Int32) (x1 : Int32) : ZCi l yX9_itemOf (ws_ yX9_itemOf cX9_itemOf 2 (some .int)) 0 0 0 0 false [.int x0, .int x1] (f_X9_itemOf x0 x1) := by
  refine Z.metI (by decide +kernel) (fun h => ⟨rfl, rfl⟩) (L0 := [(0, .int x0), (1, .int x1)]) (by first | (rw [zla_i, zla_i, zla_0]; done) | (rw [zla_i, zla_i, zla_0]; rfl)) (by rw [zsl_i, zsl_i, zsl_0]; exact Nat.le_of_ble_eq_true rfl) ?_
  intro p e R s m args below meth c D A n0 sz k F
  have F : ZF p R s m args meth c cX9_itemOf 2 "SafeBucketsModel" "itemOf" (some .int) D A false sz 0 0 0 0 := F
  unfold f_X9_itemOf
  refine Z.iload_n F 0 rfl dX9_itemOf_0 ?_
  refine Z.bipush F (v := (116 : Int32)) (by decide) dX9_itemOf_1 ?_
  refine Z.icmp_ne F (tgt := 18) dX9_itemOf_3 (by decide) ?_ ?_
  · refine Z.iload_n F 0 rfl dX9_itemOf_18 ?_
    refine Z.bipush F (v := (115 : Int32)) (by decide) dX9_itemOf_19 ?_
    refine Z.icmp_ne F (tgt := 56) dX9_itemOf_21 (by decide) ?_ ?_
    · refine Z.iload_n F 1 rfl dX9_itemOf_56 ?_
      refine Z.bipush F (v := (116 : Int32)) (by decide) dX9_itemOf_57 ?_
      refine Z.jn1 (J := _) (fun p97s0 => []) (fun p97s0 => [.int p97s0]) 97 (fun p97s0 => ?_) (fun j97 hj97 => ?_)
      · exact Z.iret F dX9_itemOf_97
      refine Z.icmp_ne F (tgt := 66) dX9_itemOf_59 (by decide) ?_ ?_
      · refine Z.iload_n F 1 rfl dX9_itemOf_66 ?_
        refine Z.bipush F (v := (97 : Int32)) (by decide) dX9_itemOf_67 ?_
        refine Z.icmp_ne F (tgt := 76) dX9_itemOf_69 (by decide) ?_ ?_
        · refine Z.iload_n F 1 rfl dX9_itemOf_76 ?_
          refine Z.bipush F (v := (98 : Int32)) (by decide) dX9_itemOf_77 ?_
          refine Z.icmp_ne F (tgt := 86) dX9_itemOf_79 (by decide) ?_ ?_
          · refine Z.iload_n F 1 rfl dX9_itemOf_86 ?_
            refine Z.bipush F (v := (110 : Int32)) (by decide) dX9_itemOf_87 ?_
            refine Z.icmp_ne F (tgt := 96) dX9_itemOf_89 (by decide) ?_ ?_
            · refine Z.iconst F (v := (-1 : Int32)) (by decide) dX9_itemOf_96 ?_
              exact Z.sub [] rfl (hj97 (-1 : Int32))
            refine Z.iconst F (v := (3 : Int32)) (by decide) dX9_itemOf_92 ?_
            refine Z.goto F (tgt := 97) dX9_itemOf_93 (by decide) ?_
            exact Z.sub [] rfl (hj97 (3 : Int32))
          refine Z.iconst F (v := (2 : Int32)) (by decide) dX9_itemOf_82 ?_
          refine Z.goto F (tgt := 97) dX9_itemOf_83 (by decide) ?_
          exact Z.sub [] rfl (hj97 (2 : Int32))
        refine Z.iconst F (v := (1 : Int32)) (by decide) dX9_itemOf_72 ?_
        refine Z.goto F (tgt := 97) dX9_itemOf_73 (by decide) ?_
        exact Z.sub [] rfl (hj97 (1 : Int32))
      refine Z.iconst F (v := (0 : Int32)) (by decide) dX9_itemOf_62 ?_
      refine Z.goto F (tgt := 97) dX9_itemOf_63 (by decide) ?_
      exact Z.sub [] rfl (hj97 (0 : Int32))
    refine Z.iload_n F 1 rfl dX9_itemOf_24 ?_
    refine Z.bipush F (v := (98 : Int32)) (by decide) dX9_itemOf_25 ?_
    refine Z.jn1 (J := _) (fun p55s0 => []) (fun p55s0 => [.int p55s0]) 55 (fun p55s0 => ?_) (fun j55 hj55 => ?_)
    · exact Z.iret F dX9_itemOf_55
    refine Z.icmp_ne F (tgt := 34) dX9_itemOf_27 (by decide) ?_ ?_
    · refine Z.iload_n F 1 rfl dX9_itemOf_34 ?_
      refine Z.bipush F (v := (100 : Int32)) (by decide) dX9_itemOf_35 ?_
      refine Z.icmp_ne F (tgt := 44) dX9_itemOf_37 (by decide) ?_ ?_
      · refine Z.iload_n F 1 rfl dX9_itemOf_44 ?_
        refine Z.bipush F (v := (113 : Int32)) (by decide) dX9_itemOf_45 ?_
        refine Z.icmp_ne F (tgt := 54) dX9_itemOf_47 (by decide) ?_ ?_
        · refine Z.iconst F (v := (-1 : Int32)) (by decide) dX9_itemOf_54 ?_
          exact Z.sub [] rfl (hj55 (-1 : Int32))
        refine Z.iconst F (v := (2 : Int32)) (by decide) dX9_itemOf_50 ?_
        refine Z.goto F (tgt := 55) dX9_itemOf_51 (by decide) ?_
        exact Z.sub [] rfl (hj55 (2 : Int32))
      refine Z.iconst F (v := (1 : Int32)) (by decide) dX9_itemOf_40 ?_
      refine Z.goto F (tgt := 55) dX9_itemOf_41 (by decide) ?_
      exact Z.sub [] rfl (hj55 (1 : Int32))
    refine Z.iconst F (v := (0 : Int32)) (by decide) dX9_itemOf_30 ?_
    refine Z.goto F (tgt := 55) dX9_itemOf_31 (by decide) ?_
    exact Z.sub [] rfl (hj55 (0 : Int32))
  refine Z.iload_n F 1 rfl dX9_itemOf_6 ?_
  refine Z.bipush F (v := (118 : Int32)) (by decide) dX9_itemOf_7 ?_
  refine Z.jn1 (J := _) (fun p17s0 => []) (fun p17s0 => [.int p17s0]) 17 (fun p17s0 => ?_) (fun j17 hj17 => ?_)
  · exact Z.iret F dX9_itemOf_17
  refine Z.icmp_ne F (tgt := 16) dX9_itemOf_9 (by decide) ?_ ?_
  · refine Z.iconst F (v := (-1 : Int32)) (by decide) dX9_itemOf_16 ?_
    exact Z.sub [] rfl (hj17 (-1 : Int32))
  refine Z.iconst F (v := (0 : Int32)) (by decide) dX9_itemOf_12 ?_
  refine Z.goto F (tgt := 17) dX9_itemOf_13 (by decide) ?_
  exact Z.sub [] rfl (hj17 (0 : Int32))
set_option maxHeartbeats 4000000 in
theorem k_X9_has (l : Launch) (x0 : Int32) (x1 : Int32) : ZCi l yX9_has (ws_ yX9_has cX9_has 2 (some .boolean)) 0 0 0 0 false [.int x0, .int x1] (f_X9_has x0 x1) := by
  refine Z.metZ (by decide +kernel) (fun h => ⟨rfl, rfl⟩) (L0 := [(0, .int x0), (1, .int x1)]) (by first | (rw [zla_i, zla_i, zla_0]; done) | (rw [zla_i, zla_i, zla_0]; rfl)) (by rw [zsl_i, zsl_i, zsl_0]; exact Nat.le_of_ble_eq_true rfl) ?_
  intro p e R s m args below meth c D A n0 sz k F
  have F : ZF p R s m args meth c cX9_has 2 "SafeBucketsModel" "has" (some .boolean) D A false sz 0 0 0 0 := F
  unfold f_X9_has
  refine Z.iload_n F 0 rfl dX9_has_0 ?_
  refine Z.iload_n F 1 rfl dX9_has_1 ?_
  refine Z.ishr F dX9_has_2 ?_
  refine Z.iconst F (v := (1 : Int32)) (by decide) dX9_has_3 ?_
  refine Z.iand F dX9_has_4 ?_
  refine Z.iconst F (v := (1 : Int32)) (by decide) dX9_has_5 ?_
  refine Z.jn1 (J := _) (fun p14s0 => []) (fun p14s0 => [.int p14s0]) 14 (fun p14s0 => ?_) (fun j14 hj14 => ?_)
  · exact Z.zret F dX9_has_14
  refine Z.icmp_ne F (tgt := 13) dX9_has_6 (by decide) ?_ ?_
  · refine Z.iconst F (v := (0 : Int32)) (by decide) dX9_has_13 ?_
    exact Z.sub [] rfl (hj14 (0 : Int32))
  refine Z.iconst F (v := (1 : Int32)) (by decide) dX9_has_9 ?_
  refine Z.goto F (tgt := 14) dX9_has_10 (by decide) ?_
  exact Z.sub [] rfl (hj14 (1 : Int32))
set_option maxHeartbeats 4000000 in
theorem k_X9_lowest (l : Launch) (x0 : Int32) (x1 : Int32) : ZCi l yX9_lowest (ws_ yX9_lowest cX9_lowest 2 (some .int)) 0 0 0 0 false [.int x0, .int x1] (f_X9_lowest x0 x1) := by
  refine Z.metI (by decide +kernel) (fun h => ⟨rfl, rfl⟩) (L0 := [(0, .int x0), (1, .int x1)]) (by first | (rw [zla_i, zla_i, zla_0]; done) | (rw [zla_i, zla_i, zla_0]; rfl)) (by rw [zsl_i, zsl_i, zsl_0]; exact Nat.le_of_ble_eq_true rfl) ?_
  intro p e R s m args below meth c D A n0 sz k F
  have F : ZF p R s m args meth c cX9_lowest 2 "SafeBucketsModel" "lowest" (some .int) D A false sz 0 0 0 0 := F
  unfold f_X9_lowest
  refine Z.iload_n F 0 rfl dX9_lowest_0 ?_
  refine Z.bipush F (v := (116 : Int32)) (by decide) dX9_lowest_1 ?_
  refine Z.icmp_ne F (tgt := 8) dX9_lowest_3 (by decide) ?_ ?_
  · refine Z.iload_n F 0 rfl dX9_lowest_8 ?_
    refine Z.bipush F (v := (115 : Int32)) (by decide) dX9_lowest_9 ?_
    refine Z.jn1 (J := _) (fun p37s0 => []) (fun p37s0 => [.int p37s0]) 37 (fun p37s0 => ?_) (fun j37 hj37 => ?_)
    · exact Z.iret F dX9_lowest_37
    refine Z.icmp_ne F (tgt := 27) dX9_lowest_11 (by decide) ?_ ?_
    · refine Z.iload_n F 1 rfl dX9_lowest_27 ?_
      refine Z.iconst F (v := (3 : Int32)) (by decide) dX9_lowest_28 ?_
      refine Z.icmp_ne F (tgt := 36) dX9_lowest_29 (by decide) ?_ ?_
      · refine Z.iconst F (v := (0 : Int32)) (by decide) dX9_lowest_36 ?_
        exact Z.sub [] rfl (hj37 (0 : Int32))
      refine Z.iconst F (v := (1 : Int32)) (by decide) dX9_lowest_32 ?_
      refine Z.goto F (tgt := 37) dX9_lowest_33 (by decide) ?_
      exact Z.sub [] rfl (hj37 (1 : Int32))
    refine Z.iload_n F 1 rfl dX9_lowest_14 ?_
    refine Z.iconst F (v := (1 : Int32)) (by decide) dX9_lowest_15 ?_
    refine Z.icmp_ne F (tgt := 23) dX9_lowest_16 (by decide) ?_ ?_
    · refine Z.iconst F (v := (1 : Int32)) (by decide) dX9_lowest_23 ?_
      refine Z.goto F (tgt := 37) dX9_lowest_24 (by decide) ?_
      exact Z.sub [] rfl (hj37 (1 : Int32))
    refine Z.iconst F (v := (0 : Int32)) (by decide) dX9_lowest_19 ?_
    refine Z.goto F (tgt := 37) dX9_lowest_20 (by decide) ?_
    exact Z.sub [] rfl (hj37 (0 : Int32))
  refine Z.iconst F (v := (2 : Int32)) (by decide) dX9_lowest_6 ?_
  exact Z.iret F dX9_lowest_7
set_option maxHeartbeats 4000000 in
theorem k_X9_highest (l : Launch) (x0 : Int32) (x1 : Int32) : ZCi l yX9_highest (ws_ yX9_highest cX9_highest 2 (some .int)) 0 0 0 0 false [.int x0, .int x1] (f_X9_highest x0 x1) := by
  refine Z.metI (by decide +kernel) (fun h => ⟨rfl, rfl⟩) (L0 := [(0, .int x0), (1, .int x1)]) (by first | (rw [zla_i, zla_i, zla_0]; done) | (rw [zla_i, zla_i, zla_0]; rfl)) (by rw [zsl_i, zsl_i, zsl_0]; exact Nat.le_of_ble_eq_true rfl) ?_
  intro p e R s m args below meth c D A n0 sz k F
  have F : ZF p R s m args meth c cX9_highest 2 "SafeBucketsModel" "highest" (some .int) D A false sz 0 0 0 0 := F
  unfold f_X9_highest
  refine Z.iload_n F 0 rfl dX9_highest_0 ?_
  refine Z.bipush F (v := (116 : Int32)) (by decide) dX9_highest_1 ?_
  refine Z.icmp_ne F (tgt := 9) dX9_highest_3 (by decide) ?_ ?_
  · refine Z.iload_n F 0 rfl dX9_highest_9 ?_
    refine Z.bipush F (v := (115 : Int32)) (by decide) dX9_highest_10 ?_
    refine Z.icmp_ne F (tgt := 38) dX9_highest_12 (by decide) ?_ ?_
    · refine Z.iload_n F 1 rfl dX9_highest_38 ?_
      refine Z.jn1 (J := _) (fun p58s0 => []) (fun p58s0 => [.int p58s0]) 58 (fun p58s0 => ?_) (fun j58 hj58 => ?_)
      · exact Z.iret F dX9_highest_58
      refine Z.if_ne F (tgt := 46) dX9_highest_39 (by decide) ?_ ?_
      · refine Z.iload_n F 1 rfl dX9_highest_46 ?_
        refine Z.iconst F (v := (3 : Int32)) (by decide) dX9_highest_47 ?_
        refine Z.icmp_ne F (tgt := 56) dX9_highest_48 (by decide) ?_ ?_
        · refine Z.bipush F (v := (15 : Int32)) (by decide) dX9_highest_56 ?_
          exact Z.sub [] rfl (hj58 (15 : Int32))
        refine Z.bipush F (v := (40 : Int32)) (by decide) dX9_highest_51 ?_
        refine Z.goto F (tgt := 58) dX9_highest_53 (by decide) ?_
        exact Z.sub [] rfl (hj58 (40 : Int32))
      refine Z.iconst F (v := (2 : Int32)) (by decide) dX9_highest_42 ?_
      refine Z.goto F (tgt := 58) dX9_highest_43 (by decide) ?_
      exact Z.sub [] rfl (hj58 (2 : Int32))
    refine Z.iload_n F 1 rfl dX9_highest_15 ?_
    refine Z.jn1 (J := _) (fun p37s0 => []) (fun p37s0 => [.int p37s0]) 37 (fun p37s0 => ?_) (fun j37 hj37 => ?_)
    · exact Z.iret F dX9_highest_37
    refine Z.if_ne F (tgt := 24) dX9_highest_16 (by decide) ?_ ?_
    · refine Z.iload_n F 1 rfl dX9_highest_24 ?_
      refine Z.iconst F (v := (1 : Int32)) (by decide) dX9_highest_25 ?_
      refine Z.icmp_ne F (tgt := 34) dX9_highest_26 (by decide) ?_ ?_
      · refine Z.sipush F (v := (999 : Int32)) (by decide) dX9_highest_34 ?_
        exact Z.sub [] rfl (hj37 (999 : Int32))
      refine Z.bipush F (v := (99 : Int32)) (by decide) dX9_highest_29 ?_
      refine Z.goto F (tgt := 37) dX9_highest_31 (by decide) ?_
      exact Z.sub [] rfl (hj37 (99 : Int32))
    refine Z.bipush F (v := (8 : Int32)) (by decide) dX9_highest_19 ?_
    refine Z.goto F (tgt := 37) dX9_highest_21 (by decide) ?_
    exact Z.sub [] rfl (hj37 (8 : Int32))
  refine Z.bipush F (v := (16 : Int32)) (by decide) dX9_highest_6 ?_
  exact Z.iret F dX9_highest_8
set_option maxHeartbeats 4000000 in
theorem k_X9_isDigit (l : Launch) (x0 : Int32) : ZCi l yX9_isDigit (ws_ yX9_isDigit cX9_isDigit 1 (some .boolean)) 0 0 0 0 false [.int x0] (f_X9_isDigit x0) := by
  refine Z.metZ (by decide +kernel) (fun h => ⟨rfl, rfl⟩) (L0 := [(0, .int x0)]) (by first | (rw [zla_i, zla_0]; done) | (rw [zla_i, zla_0]; rfl)) (by rw [zsl_i, zsl_0]; exact Nat.le_of_ble_eq_true rfl) ?_
  intro p e R s m args below meth c D A n0 sz k F
  have F : ZF p R s m args meth c cX9_isDigit 1 "SafeBucketsModel" "isDigit" (some .boolean) D A false sz 0 0 0 0 := F
  unfold f_X9_isDigit
  refine Z.iload_n F 0 rfl dX9_isDigit_0 ?_
  refine Z.bipush F (v := (48 : Int32)) (by decide) dX9_isDigit_1 ?_
  refine Z.jn1 (J := _) (fun p17s0 => []) (fun p17s0 => [.int p17s0]) 17 (fun p17s0 => ?_) (fun j17 hj17 => ?_)
  · exact Z.zret F dX9_isDigit_17
  refine Z.jn0 (J := _) ([]) ([]) 16 (?_) (fun j16 hj16 => ?_)
  · refine Z.iconst F (v := (0 : Int32)) (by decide) dX9_isDigit_16 ?_
    exact Z.sub [] rfl (hj17 (0 : Int32))
  refine Z.icmp_lt F (tgt := 16) dX9_isDigit_3 (by decide) ?_ ?_
  · exact Z.sub [] rfl (hj16)
  refine Z.iload_n F 0 rfl dX9_isDigit_6 ?_
  refine Z.bipush F (v := (57 : Int32)) (by decide) dX9_isDigit_7 ?_
  refine Z.icmp_gt F (tgt := 16) dX9_isDigit_9 (by decide) ?_ ?_
  · exact Z.sub [] rfl (hj16)
  refine Z.iconst F (v := (1 : Int32)) (by decide) dX9_isDigit_12 ?_
  refine Z.goto F (tgt := 17) dX9_isDigit_13 (by decide) ?_
  exact Z.sub [] rfl (hj17 (1 : Int32))
theorem gfX9_88 (F : ZF p R s m args meth c cc nL "SafeBucketsModel" nm ret D A al sz mc ms fr lo) {z : Nat} {K : Int32 → ZM → Prop} (hdg : decode cc pc = .ok (.getfield 88, 3)) (k : ∀ u, ZW p l e R s m args below meth c Q nL D A al n0 (K u) (pc + 3) L (.int u :: st)) : ZW p l e R s m args below meth c Q nL D A al n0 (zgI 7 z 4 K) pc L (zv z :: st) :=
  Z.getI F (ref := "SafeBucketsModel") in_X9 (ci := 6) rfl (by decide) (kf := 4) (by decide) q1574 (fun _ h => h) rfl hdg k
theorem pfX9_88 (F : ZF p R s m args meth c cc nL "SafeBucketsModel" nm ret D A al sz mc ms fr lo) {z : Nat} {u : Int32} (hdg : decode cc pc = .ok (.putfield 88, 3)) (k : ZW p l e R s m args below meth c Q nL D A al n0 P (pc + 3) L st) : ZW p l e R s m args below meth c Q nL D A al n0 (zpI 7 z 4 u P) pc L (.int u :: zv z :: st) :=
  Z.putI F (ref := "SafeBucketsModel") in_X9 (ci := 6) rfl (by decide) (kf := 4) (by decide) q1574 (fun _ h => h) tyX9 tyX9_ok nmX9 rfl rfl rfl hdg k
set_option maxHeartbeats 4000000 in
theorem k_X9_bad (l : Launch) (h0 : Nat) : ZCv l yX9_bad (ws_ yX9_bad cX9_bad 1 none) 0 0 0 0 false [zv h0] (f_X9_bad h0) := by
  refine Z.metV (by decide +kernel) (fun h => ⟨rfl, rfl⟩) (L0 := [(0, zv h0)]) (by first | (rw [zla_v, zla_0]; done) | (rw [zla_v, zla_0]; rfl)) (by rw [zsl_v, zsl_0]; exact Nat.le_of_ble_eq_true rfl) ?_
  intro p e R s m args below meth c D A n0 sz k F
  have F : ZF p R s m args meth c cX9_bad 1 "SafeBucketsModel" "bad" none D A false sz 0 0 0 0 := F
  unfold f_X9_bad
  refine Z.aload_n F 0 rfl dX9_bad_0 ?_
  refine Z.aload_n F 0 rfl dX9_bad_1 ?_
  refine gfX9_88 F dX9_bad_2 (fun g2 => ?_)
  refine Z.iconst F (v := (-1 : Int32)) (by decide) dX9_bad_5 ?_
  refine Z.jn1 (J := _) (fun p20s1 => []) (fun p20s1 => [.int p20s1, zv h0]) 20 (fun p20s1 => ?_) (fun j20 hj20 => ?_)
  · refine pfX9_88 F dX9_bad_20 ?_
    exact Z.vret F dX9_bad_23
  refine Z.icmp_ne F (tgt := 16) dX9_bad_6 (by decide) ?_ ?_
  · refine Z.aload_n F 0 rfl dX9_bad_16 ?_
    refine gfX9_88 F dX9_bad_17 (fun g17 => ?_)
    exact Z.sub [] rfl (hj20 g17)
  refine Z.aload_n F 0 rfl dX9_bad_9 ?_
  refine gfX9_81 F dX9_bad_10 (fun g10 => ?_)
  refine Z.goto F (tgt := 20) dX9_bad_13 (by decide) ?_
  exact Z.sub [] rfl (hj20 g10)
theorem clX9_91 (F : ZF p R s m args meth c cc nL "SafeBucketsModel" nm ret D A al sz mc ms fr lo) {h0 : Nat} {K : Int32 → ZM → Prop} (hR : 1 + 1 ≤ fr ∧ 8 + (1 + 11) + 20 ≤ lo) (hst4 : zlw st) (hdg : decode cc pc = .ok (.invokevirtual 91, 3)) (k : ∀ r, ZW p l e R s m args below meth c Q nL D A al n0 (K r) (pc + 3) L (.int r :: st)) : ZW p l e R s m args below meth c Q nL D A al n0 (zat 7 h0 (f_X9_ahead h0 K)) pc L (zv h0 :: st) :=
  Z.ri0 _ (fun μ H locs cells slots ls hI h hP => Z.V0 F hI (n := 0) (ci := 6) rfl (by decide) hP.1 hP.2 (k_X9_ahead l h0 D A (zX μ, zC μ, zS μ) H.size K μ) q1699 q1701 qs49 q126 q1702 (by decide +kernel) rfl h.1 hst4 hR rfl hdg) k
theorem clX9_94 (F : ZF p R s m args meth c cc nL "SafeBucketsModel" nm ret D A al sz mc ms fr lo) {x0 : Int32} {K : Int32 → ZM → Prop} (hR : 0 + 1 ≤ fr ∧ 8 + (1 + 11) + 0 ≤ lo) (hst4 : zlw st) (hdg : decode cc pc = .ok (.invokestatic 94, 3)) (k : ∀ r, ZW p l e R s m args below meth c Q nL D A al n0 (K r) (pc + 3) L (.int r :: st)) : ZW p l e R s m args below meth c Q nL D A al n0 (f_X9_isDigit x0 K) pc L (.int x0 :: st) :=
  Z.ri0 _ (fun μ H locs cells slots ls hI h hP => Z.S0 F hI (n := 1) hP (k_X9_isDigit l x0 D A (zX μ, zC μ, zS μ) H.size K μ) q1727 q1728 q126 q1729 (by decide +kernel) rfl h.1 hst4 hR rfl hdg) k
theorem clX9_98 (F : ZF p R s m args meth c cc nL "SafeBucketsModel" nm ret D A al sz mc ms fr lo) {h0 : Nat} {K : ZM → Prop} (hR : 0 + 1 ≤ fr ∧ 8 + (1 + 11) + 0 ≤ lo) (hst4 : zlw st) (hdg : decode cc pc = .ok (.invokevirtual 98, 3)) (k : ZW p l e R s m args below meth c Q nL D A al n0 K (pc + 3) L st) : ZW p l e R s m args below meth c Q nL D A al n0 (zat 7 h0 (f_X9_bad h0 K)) pc L (zv h0 :: st) :=
  Z.rv0 _ (fun μ H locs cells slots ls hI h hP => Z.V0 F hI (n := 0) (ci := 6) rfl (by decide) hP.1 hP.2 (k_X9_bad l h0 D A (zX μ, zC μ, zS μ) H.size K μ) q1730 q1732 qs53 q126 q1733 (by decide +kernel) rfl h.1 hst4 hR rfl hdg) k
set_option maxHeartbeats 4000000 in
theorem k_X9_number (l : Launch) (h0 : Nat) (x1 : Int32) (x2 : Int32) (x3 : Int32) : ZCi l yX9_number (ws_ yX9_number cX9_number 6 (some .int)) 2 40 0 0 false [zv h0, .int x1, .int x2, .int x3] (f_X9_number h0 x1 x2 x3) := by
  refine Z.metI (by decide +kernel) (fun h => ⟨rfl, rfl⟩) (L0 := [(0, zv h0), (1, .int x1), (2, .int x2), (3, .int x3)]) (by first | (rw [zla_v, zla_i, zla_i, zla_i, zla_0]; done) | (rw [zla_v, zla_i, zla_i, zla_i, zla_0]; rfl)) (by rw [zsl_v, zsl_i, zsl_i, zsl_i, zsl_0]; exact Nat.le_of_ble_eq_true rfl) ?_
  intro p e R s m args below meth c D A n0 sz k F
  have F : ZF p R s m args meth c cX9_number 6 "SafeBucketsModel" "number" (some .int) D A false sz 0 0 2 40 := F
  unfold f_X9_number
  refine Z.aload_n F 0 rfl dX9_number_0 ?_
  refine clX9_91 F ⟨Nat.le_of_ble_eq_true rfl, Nat.le_of_ble_eq_true rfl⟩ (zlw4 (Nat.le_of_ble_eq_true rfl)) dX9_number_1 (fun r1 => ?_)
  refine clX9_94 F ⟨Nat.le_of_ble_eq_true rfl, Nat.le_of_ble_eq_true rfl⟩ (zlw4 (Nat.le_of_ble_eq_true rfl)) dX9_number_4 (fun r4 => ?_)
  refine Z.if_ne F (tgt := 16) dX9_number_7 (by decide) ?_ ?_
  · refine Z.iconst F (v := (0 : Int32)) (by decide) dX9_number_16 ?_
    refine Z.istore F (L0 := [(0, zv h0), (1, .int x1), (2, .int x2), (3, .int x3)]) [0, 1, 2, 3] rfl (zkR rfl (zkI rfl (zkI rfl (zkI rfl zkN)))) (by decide) dX9_number_17 ?_
    refine Z.iconst F (v := (0 : Int32)) (by decide) dX9_number_19 ?_
    refine Z.istore F (L0 := [(4, .int (0 : Int32)), (0, zv h0), (1, .int x1), (2, .int x2), (3, .int x3)]) [0, 1, 2, 3, 4] rfl (zkI rfl (zkR rfl (zkI rfl (zkI rfl (zkI rfl zkN))))) (by decide) dX9_number_20 ?_
    refine Z.jn1 (J := _) (fun p69l4 => [(0, zv h0), (2, .int x2), (3, .int x3), (4, .int p69l4)]) (fun p69l4 => []) 69 (fun p69l4 => ?_) (fun j69 hj69 => ?_)
    · refine Z.aload_n F 0 rfl dX9_number_69 ?_
      refine clX9_84 F ⟨Nat.le_of_ble_eq_true rfl, Nat.le_of_ble_eq_true rfl⟩ (zlw4 (Nat.le_of_ble_eq_true rfl)) dX9_number_70 (fun r70 => ?_)
      refine clX9_94 F ⟨Nat.le_of_ble_eq_true rfl, Nat.le_of_ble_eq_true rfl⟩ (zlw4 (Nat.le_of_ble_eq_true rfl)) dX9_number_73 (fun r73 => ?_)
      refine Z.jn0 (J := _) ([(4, .int p69l4)]) ([]) 113 (?_) (fun j113 hj113 => ?_)
      · refine Z.iload F 0 rfl dX9_number_113 ?_
        exact Z.iret F dX9_number_115
      refine Z.if_eq F (tgt := 86) dX9_number_76 (by decide) ?_ ?_
      · refine Z.iload F 3 rfl dX9_number_86 ?_
        refine Z.i2l F dX9_number_88 ?_
        refine Z.iload_n F 1 rfl dX9_number_89 ?_
        refine Z.i2l F dX9_number_90 ?_
        refine Z.iload_n F 2 rfl dX9_number_91 ?_
        refine Z.i2l F dX9_number_92 ?_
        refine clX9_77 F ⟨Nat.le_of_ble_eq_true rfl, Nat.le_of_ble_eq_true rfl⟩ (zlw4 (Nat.le_of_ble_eq_true rfl)) dX9_number_93 (fun r93 => ?_)
        refine Z.if_ne F (tgt := 113) dX9_number_96 (by decide) ?_ ?_
        · exact Z.sub [3] rfl (hj113)
        refine Z.aload_n F 0 rfl dX9_number_99 ?_
        refine Z.dup F dX9_number_100 ?_
        refine gfX9_81 F dX9_number_101 (fun g101 => ?_)
        refine Z.iconst F (v := (1 : Int32)) (by decide) dX9_number_104 ?_
        refine Z.isub F dX9_number_105 ?_
        refine pfX9_81 F dX9_number_106 ?_
        refine Z.aload_n F 0 rfl dX9_number_109 ?_
        refine clX9_98 F ⟨Nat.le_of_ble_eq_true rfl, Nat.le_of_ble_eq_true rfl⟩ (zlw4 (Nat.le_of_ble_eq_true rfl)) dX9_number_110 ?_
        exact Z.sub [3] rfl (hj113)
      refine Z.aload_n F 0 rfl dX9_number_79 ?_
      refine clX9_98 F ⟨Nat.le_of_ble_eq_true rfl, Nat.le_of_ble_eq_true rfl⟩ (zlw4 (Nat.le_of_ble_eq_true rfl)) dX9_number_80 ?_
      refine Z.goto F (tgt := 113) dX9_number_83 (by decide) ?_
      exact Z.sub [3] rfl (hj113)
    refine Z.sub [2, 3, 4, 5, 1, 0] rfl ?_
    refine Z.w2 (Lf := fun p22l4 p22l5 => [(0, zv h0), (1, .int x1), (2, .int x2), (3, .int x3), (4, .int p22l4), (5, .int p22l5)]) (sf := fun p22l4 p22l5 => []) (fun r22 hr22 p22l4 p22l5 => ?_) (0 : Int32) (0 : Int32)
    refine Z.iload F 5 rfl dX9_number_22 ?_
    refine Z.iload_n F 1 rfl dX9_number_24 ?_
    refine Z.icmp_ge F (tgt := 69) dX9_number_25 (by decide) ?_ ?_
    · exact Z.sub [0, 2, 3, 4] rfl (hj69 p22l4)
    refine Z.aload_n F 0 rfl dX9_number_28 ?_
    refine clX9_84 F ⟨Nat.le_of_ble_eq_true rfl, Nat.le_of_ble_eq_true rfl⟩ (zlw4 (Nat.le_of_ble_eq_true rfl)) dX9_number_29 (fun r29 => ?_)
    refine clX9_94 F ⟨Nat.le_of_ble_eq_true rfl, Nat.le_of_ble_eq_true rfl⟩ (zlw4 (Nat.le_of_ble_eq_true rfl)) dX9_number_32 (fun r32 => ?_)
    refine Z.if_eq F (tgt := 69) dX9_number_35 (by decide) ?_ ?_
    · exact Z.sub [0, 2, 3, 4] rfl (hj69 p22l4)
    refine Z.bipush F (v := (10 : Int32)) (by decide) dX9_number_38 ?_
    refine Z.iload F 4 rfl dX9_number_40 ?_
    refine Z.imul F dX9_number_42 ?_
    refine Z.aload_n F 0 rfl dX9_number_43 ?_
    refine clX9_84 F ⟨Nat.le_of_ble_eq_true rfl, Nat.le_of_ble_eq_true rfl⟩ (zlw4 (Nat.le_of_ble_eq_true rfl)) dX9_number_44 (fun r44 => ?_)
    refine Z.iadd F dX9_number_47 ?_
    refine Z.bipush F (v := (48 : Int32)) (by decide) dX9_number_48 ?_
    refine Z.isub F dX9_number_50 ?_
    refine Z.istore F (L0 := [(0, zv h0), (1, .int x1), (2, .int x2), (3, .int x3), (5, .int p22l5)]) [0, 1, 2, 3, 5] rfl (zkR rfl (zkI rfl (zkI rfl (zkI rfl (zkI rfl zkN))))) (by decide) dX9_number_51 ?_
    refine Z.aload_n F 1 rfl dX9_number_53 ?_
    refine Z.dup F dX9_number_54 ?_
    refine gfX9_81 F dX9_number_55 (fun g55 => ?_)
    refine Z.iconst F (v := (1 : Int32)) (by decide) dX9_number_58 ?_
    refine Z.iadd F dX9_number_59 ?_
    refine pfX9_81 F dX9_number_60 ?_
    refine Z.iinc F (L0 := [(4, .int ((((10 : Int32) * p22l4) + r44) - (48 : Int32))), (0, zv h0), (1, .int x1), (2, .int x2), (3, .int x3)]) (k0 := 5) (v := (1 : Int32)) rfl (by decide) [0, 1, 2, 3, 4] rfl (zkI rfl (zkR rfl (zkI rfl (zkI rfl (zkI rfl zkN))))) (by decide) dX9_number_63 ?_
    refine Z.goto F (tgt := 22) dX9_number_66 (by decide) ?_
    exact Z.sub [2, 3, 4, 5, 1, 0] rfl (hr22 ((((10 : Int32) * p22l4) + r44) - (48 : Int32)) (p22l5 + (1 : Int32)))
  refine Z.aload_n F 0 rfl dX9_number_10 ?_
  refine clX9_98 F ⟨Nat.le_of_ble_eq_true rfl, Nat.le_of_ble_eq_true rfl⟩ (zlw4 (Nat.le_of_ble_eq_true rfl)) dX9_number_11 ?_
  refine Z.iload_n F 2 rfl dX9_number_14 ?_
  exact Z.iret F dX9_number_15
end ZWalk
