section ZWalk
variable {p : Program} {l : Launch} {e : Env} {R : Room} {s : State} {m : MethodId} {args : Array Value} {below : List Frame} {meth : Method} {c : Code} {Q : State → Prop} {nL : Nat} {D : ZD} {A : Nat → Prop} {al : Bool} {n0 : Nat × Nat × Nat} {cc : ByteArray} {nm : String} {ret : Option FieldType} {sz mc ms fr lo : Nat}
variable {P : ZM → Prop} {pc : Nat} {L : List (Nat × Value)} {st : List Value}
theorem clX0_7 (hl : l.stackTraces = false) (F : ZF p R s m args meth c cc nL "SafeBucketsLaw" nm ret D A true sz mc ms fr lo) {h0 : Nat} {x1 : Int32} {x2 : Int32} {K : Int32 → ZM → Prop} {Kx : Nat → ZM → Prop} (hR : 6 + 1 ≤ fr ∧ 8 + (4 + 11) + 89 ≤ lo) (hst4 : zlw st) (hdg : decode cc pc = .ok (.invokevirtual 7, 3)) (kx : ZX p l e R s m args below meth c Q nL D A true n0 "java/util/NoSuchElementException" Kx pc L) (k : ∀ r, ZW p l e R s m args below meth c Q nL D A true n0 (K r) (pc + 3) L (.int r :: st)) : ZW p l e R s m args below meth c Q nL D A true n0 (zat 1 h0 (zclx' 1 6 (fun k kx => f_X1_table h0 x1 x2 kx k) Kx K)) pc L (.int x2 :: .int x1 :: zv h0 :: st) :=
  Z.xi1 (fun μ H locs cells slots ls hI h hP => ⟨hP.2.1, hP.2.2.1, Z.Vx1 F hI (n := 2) (ci := 0) rfl (by decide) hP.1 hP.2.1 hP.2.2.1 hP.2.2.2 (k_X1_table l hl h0 x1 x2 D A (0, 0, 0) 0 (fun r μ' => K r (zcs μ' (zC μ - 1) (zS μ - 6))) (fun r μ' => Kx r (zcs μ' (zC μ - 1) (zS μ - 6))) (zcs μ 1 6)) q1535 q1536 q1537 q116 q1538 (by decide +kernel) rfl h.1 hst4 hR rfl hdg⟩) kx k
set_option maxHeartbeats 4000000 in
theorem k_X0_table (l : Launch) (hl : l.stackTraces = false) (h0 : Nat) (x1 : Int32) (x2 : Int32) (h3 : Nat) : ZCi l yX0_table (wsW_ yX0_table cX0_table 5 (some .int) [(0, 10, 13, 13)]) 7 112 1 6 true [zv h0, .int x1, .int x2, zv h3] (f_X0_table h0 x1 x2 h3) := by
  refine Z.metIW (by decide +kernel) (fun h => by cases h) (L0 := [(0, zv h0), (1, .int x1), (2, .int x2), (3, zv h3)]) (by first | (rw [zla_v, zla_i, zla_i, zla_v, zla_0]; done) | (rw [zla_v, zla_i, zla_i, zla_v, zla_0]; rfl)) (by rw [zsl_v, zsl_i, zsl_i, zsl_v, zsl_0]; exact Nat.le_of_ble_eq_true rfl) ?_
  intro p e R s m args below meth c D A n0 sz k F htb
  have F : ZF p R s m args meth c cX0_table 5 "SafeBucketsLaw" "table" (some .int) D A true sz 1 6 7 112 := F
  unfold f_X0_table
  refine Z.aload_n F 3 rfl dX0_table_0 ?_
  refine Z.iconst F (v := (0 : Int32)) (by decide) dX0_table_1 ?_
  refine Z.aload_n F 0 rfl dX0_table_2 ?_
  refine Z.iload_n F 1 rfl dX0_table_3 ?_
  refine Z.iload_n F 2 rfl dX0_table_4 ?_
  refine clX0_7 hl F ⟨Nat.le_of_ble_eq_true rfl, Nat.le_of_ble_eq_true rfl⟩ (zlw4 (Nat.le_of_ble_eq_true rfl)) dX0_table_5 (Z.catch F (name := "java/util/NoSuchElementException") ((tableOf [(0, 10, 13, 13)]).take 0) _ _ (htb.trans rfl) (by decide) (by decide) (by decide) q1534 (List.mem_of_getElem? (i := 8) rfl) (fun e5 => ?_)) (fun r5 => ?_)
  · refine Z.astore F (L0 := [(0, zv h0), (1, .int x1), (2, .int x2), (3, zv h3)]) [0, 1, 2, 3] rfl (zkR rfl (zkI rfl (zkI rfl (zkR rfl zkN)))) (by decide) dX0_table_13 ?_
    refine Z.iconst F (v := (1 : Int32)) (by decide) dX0_table_15 ?_
    exact Z.iret F dX0_table_16
  refine Z.i2l F dX0_table_8 ?_
  refine Z.last F dX0_table_9 ?_
  refine Z.goto F (tgt := 17) dX0_table_10 (by decide) ?_
  refine Z.iconst F (v := (0 : Int32)) (by decide) dX0_table_17 ?_
  exact Z.iret F dX0_table_18
end ZWalk
