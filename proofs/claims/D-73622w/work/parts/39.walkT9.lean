section ZWalk
variable {p : Program} {l : Launch} {e : Env} {R : Room} {s : State} {m : MethodId} {args : Array Value} {below : List Frame} {meth : Method} {c : Code} {Q : State → Prop} {nL : Nat} {D : ZD} {A : Nat → Prop} {al : Bool} {n0 : Nat × Nat × Nat} {cc : ByteArray} {nm : String} {ret : Option FieldType} {sz mc ms fr lo : Nat}
variable {P : ZM → Prop} {pc : Nat} {L : List (Nat × Value)} {st : List Value}
set_option maxHeartbeats 4000000 in
theorem k_X9_joinBy (l : Launch) (h0 : Nat) (x1 : Int32) (x2 : Int32) (x3 : Int32) (x4 : Int32) (x5 : Int32) : ZCl l yX9_joinBy (ws_ yX9_joinBy cX9_joinBy 22 (some .long)) 2 45 0 0 false [zv h0, .int x1, .int x2, .int x3, .int x4, .int x5] (f_X9_joinBy h0 x1 x2 x3 x4 x5) := by
  refine Z.metL (by decide +kernel) (fun h => ⟨rfl, rfl⟩) (L0 := [(0, zv h0), (1, .int x1), (2, .int x2), (3, .int x3), (4, .int x4), (5, .int x5)]) (by first | (rw [zla_v, zla_i, zla_i, zla_i, zla_i, zla_i, zla_0]; done) | (rw [zla_v, zla_i, zla_i, zla_i, zla_i, zla_i, zla_0]; rfl)) (by rw [zsl_v, zsl_i, zsl_i, zsl_i, zsl_i, zsl_i, zsl_0]; exact Nat.le_of_ble_eq_true rfl) ?_
  intro p e R s m args below meth c D A n0 sz k F
  have F : ZF p R s m args meth c cX9_joinBy 22 "SafeBucketsModel" "joinBy" (some .long) D A false sz 0 0 2 45 := F
  unfold f_X9_joinBy
  refine Z.lconst F (w := (0 : Int64)) (by decide) dX9_joinBy_0 ?_
  refine Z.lstore F (L0 := [(0, zv h0), (1, .int x1), (2, .int x2), (3, .int x3), (4, .int x4), (5, .int x5)]) [0, 1, 2, 3, 4, 5] rfl (zmR rfl rfl  (zmI rfl rfl  (zmI rfl rfl  (zmI rfl rfl  (zmI rfl rfl  (zmI rfl rfl  zmN)))))) (by decide) dX9_joinBy_1 ?_
  refine Z.iconst F (v := (0 : Int32)) (by decide) dX9_joinBy_3 ?_
  refine Z.istore F (L0 := [(6, .long (0 : Int64)), (0, zv h0), (1, .int x1), (2, .int x2), (3, .int x3), (4, .int x4), (5, .int x5)]) [0, 1, 2, 3, 4, 5, 6] rfl (zkL rfl rfl (zkR rfl (zkI rfl (zkI rfl (zkI rfl (zkI rfl (zkI rfl zkN))))))) (by decide) dX9_joinBy_4 ?_
  refine Z.sub [2, 3, 4, 5, 6, 7, 1, 0] rfl ?_
  refine Z.w2 (Lf := fun p6l6 p6l8 => [(0, zv h0), (1, .int x1), (2, .int x2), (3, .int x3), (4, .int x4), (5, .int x5), (6, .long p6l6), (8, .int p6l8)]) (sf := fun p6l6 p6l8 => []) (fun r6 hr6 p6l6 p6l8 => ?_) (0 : Int64) (0 : Int32)
  refine Z.iload F 7 rfl dX9_joinBy_6 ?_
  refine Z.aload_n F 0 rfl dX9_joinBy_8 ?_
  refine Z.iload_n F 1 rfl dX9_joinBy_9 ?_
  refine Z.iload_n F 2 rfl dX9_joinBy_10 ?_
  refine clX9_238 F ⟨Nat.le_of_ble_eq_true rfl, Nat.le_of_ble_eq_true rfl⟩ (zlw4 (Nat.le_of_ble_eq_true rfl)) dX9_joinBy_11 (fun r11 => ?_)
  refine Z.icmp_ge F (tgt := 248) dX9_joinBy_14 (by decide) ?_ ?_
  · refine Z.lload F 6 rfl dX9_joinBy_248 ?_
    exact Z.lret F dX9_joinBy_250
  refine Z.iconst F (v := (0 : Int32)) (by decide) dX9_joinBy_17 ?_
  refine Z.istore F (L0 := [(0, zv h0), (1, .int x1), (2, .int x2), (3, .int x3), (4, .int x4), (5, .int x5), (6, .long p6l6), (8, .int p6l8)]) [0, 1, 2, 3, 4, 5, 6, 7] rfl (zkR rfl (zkI rfl (zkI rfl (zkI rfl (zkI rfl (zkI rfl (zkL rfl rfl (zkI rfl zkN)))))))) (by decide) dX9_joinBy_18 ?_
  refine Z.jn2 (J := _) (fun p242l6 p242l8 => [(0, zv h0), (1, .int x1), (2, .int x2), (3, .int x3), (4, .int x4), (5, .int x5), (6, .long p242l6), (8, .int p242l8)]) (fun p242l6 p242l8 => []) 242 (fun p242l6 p242l8 => ?_) (fun j242 hj242 => ?_)
  · refine Z.iinc F (L0 := [(0, zv h0), (1, .int x1), (2, .int x2), (3, .int x3), (4, .int x4), (5, .int x5), (6, .long p242l6)]) (k0 := 7) (v := (1 : Int32)) rfl (by decide) [0, 1, 2, 3, 4, 5, 6] rfl (zkR rfl (zkI rfl (zkI rfl (zkI rfl (zkI rfl (zkI rfl (zkL rfl rfl zkN))))))) (by decide) dX9_joinBy_242 ?_
    refine Z.goto F (tgt := 6) dX9_joinBy_245 (by decide) ?_
    exact Z.sub [1, 2, 3, 4, 5, 6, 7, 0] rfl (hr6 p242l6 (p242l8 + (1 : Int32)))
  refine Z.sub [1, 2, 3, 4, 5, 6, 7, 8, 0] rfl ?_
  refine Z.w3 (Lf := fun p20l6 p20l8 p20l9 => [(0, zv h0), (1, .int x1), (2, .int x2), (3, .int x3), (4, .int x4), (5, .int x5), (6, .long p20l6), (8, .int p20l8), (9, .int p20l9)]) (sf := fun p20l6 p20l8 p20l9 => []) (fun r20 hr20 p20l6 p20l8 p20l9 => ?_) p6l6 p6l8 (0 : Int32)
  refine Z.iload F 8 rfl dX9_joinBy_20 ?_
  refine Z.aload_n F 0 rfl dX9_joinBy_22 ?_
  refine Z.iload_n F 3 rfl dX9_joinBy_23 ?_
  refine Z.iload F 4 rfl dX9_joinBy_24 ?_
  refine clX9_238 F ⟨Nat.le_of_ble_eq_true rfl, Nat.le_of_ble_eq_true rfl⟩ (zlw4 (Nat.le_of_ble_eq_true rfl)) dX9_joinBy_26 (fun r26 => ?_)
  refine Z.icmp_ge F (tgt := 242) dX9_joinBy_29 (by decide) ?_ ?_
  · exact Z.sub [0, 1, 2, 3, 4, 5, 6, 7] rfl (hj242 p20l6 p20l8)
  refine Z.aload_n F 0 rfl dX9_joinBy_32 ?_
  refine Z.iload_n F 1 rfl dX9_joinBy_33 ?_
  refine Z.iload_n F 2 rfl dX9_joinBy_34 ?_
  refine Z.iload F 7 rfl dX9_joinBy_35 ?_
  refine Z.iconst F (v := (1 : Int32)) (by decide) dX9_joinBy_37 ?_
  refine clX9_241 F ⟨Nat.le_of_ble_eq_true rfl, Nat.le_of_ble_eq_true rfl⟩ (zlw4 (Nat.le_of_ble_eq_true rfl)) dX9_joinBy_38 (fun r38 => ?_)
  refine Z.aload_n F 0 rfl dX9_joinBy_41 ?_
  refine Z.iload_n F 3 rfl dX9_joinBy_42 ?_
  refine Z.iload F 4 rfl dX9_joinBy_43 ?_
  refine Z.iload F 8 rfl dX9_joinBy_45 ?_
  refine Z.iconst F (v := (1 : Int32)) (by decide) dX9_joinBy_47 ?_
  refine clX9_241 F ⟨Nat.le_of_ble_eq_true rfl, Nat.le_of_ble_eq_true rfl⟩ (zlw4 (Nat.le_of_ble_eq_true rfl)) dX9_joinBy_48 (fun r48 => ?_)
  refine Z.mmin F q1769 (Nat.le_of_ble_eq_true rfl) (Nat.le_of_ble_eq_true rfl) (zlw4 (Nat.le_of_ble_eq_true rfl)) dX9_joinBy_51 ?_
  refine Z.aload_n F 0 rfl dX9_joinBy_54 ?_
  refine Z.iload_n F 1 rfl dX9_joinBy_55 ?_
  refine Z.iload_n F 2 rfl dX9_joinBy_56 ?_
  refine Z.iload F 7 rfl dX9_joinBy_57 ?_
  refine Z.iconst F (v := (0 : Int32)) (by decide) dX9_joinBy_59 ?_
  refine clX9_241 F ⟨Nat.le_of_ble_eq_true rfl, Nat.le_of_ble_eq_true rfl⟩ (zlw4 (Nat.le_of_ble_eq_true rfl)) dX9_joinBy_60 (fun r60 => ?_)
  refine Z.aload_n F 0 rfl dX9_joinBy_63 ?_
  refine Z.iload_n F 3 rfl dX9_joinBy_64 ?_
  refine Z.iload F 4 rfl dX9_joinBy_65 ?_
  refine Z.iload F 8 rfl dX9_joinBy_67 ?_
  refine Z.iconst F (v := (0 : Int32)) (by decide) dX9_joinBy_69 ?_
  refine clX9_241 F ⟨Nat.le_of_ble_eq_true rfl, Nat.le_of_ble_eq_true rfl⟩ (zlw4 (Nat.le_of_ble_eq_true rfl)) dX9_joinBy_70 (fun r70 => ?_)
  refine Z.mmax F q1794 (Nat.le_of_ble_eq_true rfl) (Nat.le_of_ble_eq_true rfl) (zlw4 (Nat.le_of_ble_eq_true rfl)) dX9_joinBy_73 ?_
  refine Z.isub F dX9_joinBy_76 ?_
  refine Z.iconst F (v := (1 : Int32)) (by decide) dX9_joinBy_77 ?_
  refine Z.iadd F dX9_joinBy_78 ?_
  refine Z.nmI (fun v78 => ?_)
  refine Z.i2l F dX9_joinBy_79 ?_
  refine Z.lstore F (L0 := [(0, zv h0), (1, .int x1), (2, .int x2), (3, .int x3), (4, .int x4), (5, .int x5), (6, .long p20l6), (8, .int p20l8), (9, .int p20l9)]) [0, 1, 2, 3, 4, 5, 6, 7, 8] rfl (zmR rfl rfl  (zmI rfl rfl  (zmI rfl rfl  (zmI rfl rfl  (zmI rfl rfl  (zmI rfl rfl  (zmL rfl rfl rfl  (zmI rfl rfl  (zmI rfl rfl  zmN))))))))) (by decide) dX9_joinBy_80 ?_
  refine Z.lload F 0 rfl dX9_joinBy_82 ?_
  refine Z.lconst F (w := (0 : Int64)) (by decide) dX9_joinBy_84 ?_
  refine Z.lcmp F dX9_joinBy_85 ?_
  refine Z.jn1 (J := _) (fun p236l6 => [(0, zv h0), (1, .int x1), (2, .int x2), (3, .int x3), (4, .int x4), (5, .int x5), (6, .long p236l6), (8, .int p20l8), (9, .int p20l9)]) (fun p236l6 => []) 236 (fun p236l6 => ?_) (fun j236 hj236 => ?_)
  · refine Z.iinc F (L0 := [(0, zv h0), (1, .int x1), (2, .int x2), (3, .int x3), (4, .int x4), (5, .int x5), (6, .long p236l6), (8, .int p20l8)]) (k0 := 8) (v := (1 : Int32)) rfl (by decide) [0, 1, 2, 3, 4, 5, 6, 7] rfl (zkR rfl (zkI rfl (zkI rfl (zkI rfl (zkI rfl (zkI rfl (zkL rfl rfl (zkI rfl zkN)))))))) (by decide) dX9_joinBy_236 ?_
    refine Z.goto F (tgt := 20) dX9_joinBy_239 (by decide) ?_
    exact Z.sub [1, 2, 3, 4, 5, 6, 7, 8, 0] rfl (hr20 p236l6 p20l8 (p20l9 + (1 : Int32)))
  refine Z.if_le F (tgt := 236) dX9_joinBy_86 (by decide) ?_ ?_
  · exact Z.sub [1, 2, 3, 4, 5, 6, 7, 8, 9] rfl (hj236 p20l6)
  refine Z.aload_n F 1 rfl dX9_joinBy_89 ?_
  refine Z.iload_n F 2 rfl dX9_joinBy_90 ?_
  refine Z.iload_n F 3 rfl dX9_joinBy_91 ?_
  refine Z.iload F 8 rfl dX9_joinBy_92 ?_
  refine Z.iconst F (v := (2 : Int32)) (by decide) dX9_joinBy_94 ?_
  refine clX9_241 F ⟨Nat.le_of_ble_eq_true rfl, Nat.le_of_ble_eq_true rfl⟩ (zlw4 (Nat.le_of_ble_eq_true rfl)) dX9_joinBy_95 (fun r95 => ?_)
  refine Z.i2l F dX9_joinBy_98 ?_
  refine Z.lstore F (L0 := [(10, .long v78.toInt64), (0, zv h0), (1, .int x1), (2, .int x2), (3, .int x3), (4, .int x4), (5, .int x5), (6, .long p20l6), (8, .int p20l8), (9, .int p20l9)]) [0, 1, 2, 3, 4, 5, 6, 7, 8, 9] rfl (zmL rfl rfl rfl  (zmR rfl rfl  (zmI rfl rfl  (zmI rfl rfl  (zmI rfl rfl  (zmI rfl rfl  (zmI rfl rfl  (zmL rfl rfl rfl  (zmI rfl rfl  (zmI rfl rfl  zmN)))))))))) (by decide) dX9_joinBy_99 ?_
  refine Z.aload_n F 2 rfl dX9_joinBy_101 ?_
  refine Z.iload_n F 5 rfl dX9_joinBy_102 ?_
  refine Z.iload F 6 rfl dX9_joinBy_103 ?_
  refine Z.iload F 10 rfl dX9_joinBy_105 ?_
  refine Z.iconst F (v := (2 : Int32)) (by decide) dX9_joinBy_107 ?_
  refine clX9_241 F ⟨Nat.le_of_ble_eq_true rfl, Nat.le_of_ble_eq_true rfl⟩ (zlw4 (Nat.le_of_ble_eq_true rfl)) dX9_joinBy_108 (fun r108 => ?_)
  refine Z.i2l F dX9_joinBy_111 ?_
  refine Z.lstore F (L0 := [(12, .long r95.toInt64), (10, .long v78.toInt64), (0, zv h0), (1, .int x1), (2, .int x2), (3, .int x3), (4, .int x4), (5, .int x5), (6, .long p20l6), (8, .int p20l8), (9, .int p20l9)]) [0, 1, 2, 3, 4, 5, 6, 7, 8, 9, 10] rfl (zmL rfl rfl rfl  (zmL rfl rfl rfl  (zmR rfl rfl  (zmI rfl rfl  (zmI rfl rfl  (zmI rfl rfl  (zmI rfl rfl  (zmI rfl rfl  (zmL rfl rfl rfl  (zmI rfl rfl  (zmI rfl rfl  zmN))))))))))) (by decide) dX9_joinBy_112 ?_
  refine Z.aload_n F 3 rfl dX9_joinBy_114 ?_
  refine Z.iload_n F 4 rfl dX9_joinBy_115 ?_
  refine Z.iload_n F 5 rfl dX9_joinBy_116 ?_
  refine Z.iload F 10 rfl dX9_joinBy_117 ?_
  refine Z.iconst F (v := (3 : Int32)) (by decide) dX9_joinBy_119 ?_
  refine clX9_241 F ⟨Nat.le_of_ble_eq_true rfl, Nat.le_of_ble_eq_true rfl⟩ (zlw4 (Nat.le_of_ble_eq_true rfl)) dX9_joinBy_120 (fun r120 => ?_)
  refine Z.i2l F dX9_joinBy_123 ?_
  refine Z.lstore F (L0 := [(14, .long r108.toInt64), (12, .long r95.toInt64), (10, .long v78.toInt64), (0, zv h0), (1, .int x1), (2, .int x2), (3, .int x3), (4, .int x4), (5, .int x5), (6, .long p20l6), (8, .int p20l8), (9, .int p20l9)]) [0, 1, 2, 3, 4, 5, 6, 7, 8, 9, 10, 11] rfl (zmL rfl rfl rfl  (zmL rfl rfl rfl  (zmL rfl rfl rfl  (zmR rfl rfl  (zmI rfl rfl  (zmI rfl rfl  (zmI rfl rfl  (zmI rfl rfl  (zmI rfl rfl  (zmL rfl rfl rfl  (zmI rfl rfl  (zmI rfl rfl  zmN)))))))))))) (by decide) dX9_joinBy_124 ?_
  refine Z.aload_n F 4 rfl dX9_joinBy_126 ?_
  refine Z.iload_n F 7 rfl dX9_joinBy_127 ?_
  refine Z.iload F 8 rfl dX9_joinBy_128 ?_
  refine Z.iload F 12 rfl dX9_joinBy_130 ?_
  refine Z.iconst F (v := (3 : Int32)) (by decide) dX9_joinBy_132 ?_
  refine clX9_241 F ⟨Nat.le_of_ble_eq_true rfl, Nat.le_of_ble_eq_true rfl⟩ (zlw4 (Nat.le_of_ble_eq_true rfl)) dX9_joinBy_133 (fun r133 => ?_)
  refine Z.i2l F dX9_joinBy_136 ?_
  refine Z.lstore F (L0 := [(16, .long r120.toInt64), (14, .long r108.toInt64), (12, .long r95.toInt64), (10, .long v78.toInt64), (0, zv h0), (1, .int x1), (2, .int x2), (3, .int x3), (4, .int x4), (5, .int x5), (6, .long p20l6), (8, .int p20l8), (9, .int p20l9)]) [0, 1, 2, 3, 4, 5, 6, 7, 8, 9, 10, 11, 12] rfl (zmL rfl rfl rfl  (zmL rfl rfl rfl  (zmL rfl rfl rfl  (zmL rfl rfl rfl  (zmR rfl rfl  (zmI rfl rfl  (zmI rfl rfl  (zmI rfl rfl  (zmI rfl rfl  (zmI rfl rfl  (zmL rfl rfl rfl  (zmI rfl rfl  (zmI rfl rfl  zmN))))))))))))) (by decide) dX9_joinBy_137 ?_
  refine Z.aload_n F 5 rfl dX9_joinBy_139 ?_
  refine Z.iload_n F 6 rfl dX9_joinBy_140 ?_
  refine Z.iload_n F 7 rfl dX9_joinBy_141 ?_
  refine Z.iload F 12 rfl dX9_joinBy_142 ?_
  refine Z.iconst F (v := (1 : Int32)) (by decide) dX9_joinBy_144 ?_
  refine clX9_241 F ⟨Nat.le_of_ble_eq_true rfl, Nat.le_of_ble_eq_true rfl⟩ (zlw4 (Nat.le_of_ble_eq_true rfl)) dX9_joinBy_145 (fun r145 => ?_)
  refine Z.aload_n F 5 rfl dX9_joinBy_148 ?_
  refine Z.iload_n F 6 rfl dX9_joinBy_149 ?_
  refine Z.iload_n F 7 rfl dX9_joinBy_150 ?_
  refine Z.iload F 12 rfl dX9_joinBy_151 ?_
  refine Z.iconst F (v := (0 : Int32)) (by decide) dX9_joinBy_153 ?_
  refine clX9_241 F ⟨Nat.le_of_ble_eq_true rfl, Nat.le_of_ble_eq_true rfl⟩ (zlw4 (Nat.le_of_ble_eq_true rfl)) dX9_joinBy_154 (fun r154 => ?_)
  refine Z.isub F dX9_joinBy_157 ?_
  refine Z.iconst F (v := (1 : Int32)) (by decide) dX9_joinBy_158 ?_
  refine Z.iadd F dX9_joinBy_159 ?_
  refine Z.i2l F dX9_joinBy_160 ?_
  refine Z.aload_n F 5 rfl dX9_joinBy_161 ?_
  refine Z.iload_n F 8 rfl dX9_joinBy_162 ?_
  refine Z.iload F 9 rfl dX9_joinBy_163 ?_
  refine Z.iload F 13 rfl dX9_joinBy_165 ?_
  refine Z.iconst F (v := (1 : Int32)) (by decide) dX9_joinBy_167 ?_
  refine clX9_241 F ⟨Nat.le_of_ble_eq_true rfl, Nat.le_of_ble_eq_true rfl⟩ (zlw4 (Nat.le_of_ble_eq_true rfl)) dX9_joinBy_168 (fun r168 => ?_)
  refine Z.aload_n F 5 rfl dX9_joinBy_171 ?_
  refine Z.iload_n F 8 rfl dX9_joinBy_172 ?_
  refine Z.iload F 9 rfl dX9_joinBy_173 ?_
  refine Z.iload F 13 rfl dX9_joinBy_175 ?_
  refine Z.iconst F (v := (0 : Int32)) (by decide) dX9_joinBy_177 ?_
  refine clX9_241 F ⟨Nat.le_of_ble_eq_true rfl, Nat.le_of_ble_eq_true rfl⟩ (zlw4 (Nat.le_of_ble_eq_true rfl)) dX9_joinBy_178 (fun r178 => ?_)
  refine Z.isub F dX9_joinBy_181 ?_
  refine Z.iconst F (v := (1 : Int32)) (by decide) dX9_joinBy_182 ?_
  refine Z.iadd F dX9_joinBy_183 ?_
  refine Z.i2l F dX9_joinBy_184 ?_
  refine Z.lmul F dX9_joinBy_185 ?_
  refine Z.nmJ (fun v185 => ?_)
  refine Z.lstore F (L0 := [(18, .long r133.toInt64), (16, .long r120.toInt64), (14, .long r108.toInt64), (12, .long r95.toInt64), (10, .long v78.toInt64), (0, zv h0), (1, .int x1), (2, .int x2), (3, .int x3), (4, .int x4), (5, .int x5), (6, .long p20l6), (8, .int p20l8), (9, .int p20l9)]) [0, 1, 2, 3, 4, 5, 6, 7, 8, 9, 10, 11, 12, 13] rfl (zmL rfl rfl rfl  (zmL rfl rfl rfl  (zmL rfl rfl rfl  (zmL rfl rfl rfl  (zmL rfl rfl rfl  (zmR rfl rfl  (zmI rfl rfl  (zmI rfl rfl  (zmI rfl rfl  (zmI rfl rfl  (zmI rfl rfl  (zmL rfl rfl rfl  (zmI rfl rfl  (zmI rfl rfl  zmN)))))))))))))) (by decide) dX9_joinBy_186 ?_
  refine Z.lload F 12 rfl dX9_joinBy_188 ?_
  refine Z.iload F 11 rfl dX9_joinBy_190 ?_
  refine Z.jn1 (J := _) (fun p233s1 => [(0, zv h0), (1, .int x1), (2, .int x2), (3, .int x3), (4, .int x4), (5, .int x5), (8, .int p20l8), (9, .int p20l9)]) (fun p233s1 => [.long p233s1, .long p20l6]) 233 (fun p233s1 => ?_) (fun j233 hj233 => ?_)
  · refine Z.ladd F dX9_joinBy_233 ?_
    refine Z.lstore F (L0 := [(0, zv h0), (1, .int x1), (2, .int x2), (3, .int x3), (4, .int x4), (5, .int x5), (8, .int p20l8), (9, .int p20l9)]) [0, 1, 2, 3, 4, 5, 6, 7] rfl (zmR rfl rfl  (zmI rfl rfl  (zmI rfl rfl  (zmI rfl rfl  (zmI rfl rfl  (zmI rfl rfl  (zmI rfl rfl  (zmI rfl rfl  zmN)))))))) (by decide) dX9_joinBy_234 ?_
    exact Z.sub [1, 2, 3, 4, 5, 6, 0, 7, 8] rfl (hj236 (p20l6 + p233s1))
  refine Z.if_eq F (tgt := 222) dX9_joinBy_192 (by decide) ?_ ?_
  · refine Z.lload F 5 rfl dX9_joinBy_222 ?_
    refine Z.lload F 4 rfl dX9_joinBy_224 ?_
    refine Z.lmul F dX9_joinBy_226 ?_
    refine Z.lload F 3 rfl dX9_joinBy_227 ?_
    refine Z.lmul F dX9_joinBy_229 ?_
    refine Z.lload F 0 rfl dX9_joinBy_230 ?_
    refine Z.ldiv F dX9_joinBy_232 ?_
    exact Z.sub [6, 7, 8, 9, 10, 11, 13, 14] rfl (hj233 (((v78.toInt64 * r95.toInt64) * r108.toInt64) / v185))
  refine Z.lload F 5 rfl dX9_joinBy_195 ?_
  refine Z.lload F 2 rfl dX9_joinBy_197 ?_
  refine Z.lmul F dX9_joinBy_199 ?_
  refine Z.lload F 1 rfl dX9_joinBy_200 ?_
  refine Z.lmul F dX9_joinBy_202 ?_
  refine Z.lload F 4 rfl dX9_joinBy_203 ?_
  refine Z.lload F 1 rfl dX9_joinBy_205 ?_
  refine Z.lmul F dX9_joinBy_207 ?_
  refine Z.lload F 3 rfl dX9_joinBy_208 ?_
  refine Z.lload F 2 rfl dX9_joinBy_210 ?_
  refine Z.lmul F dX9_joinBy_212 ?_
  refine Z.lmin F q1787 (Nat.le_of_ble_eq_true rfl) (Nat.le_of_ble_eq_true rfl) (zlw4 (Nat.le_of_ble_eq_true rfl)) dX9_joinBy_213 ?_
  refine Z.nmJ (fun v213 => ?_)
  refine Z.lmin F q1787 (Nat.le_of_ble_eq_true rfl) (Nat.le_of_ble_eq_true rfl) (zlw4 (Nat.le_of_ble_eq_true rfl)) dX9_joinBy_216 ?_
  refine Z.nmJ (fun v216 => ?_)
  refine Z.goto F (tgt := 233) dX9_joinBy_219 (by decide) ?_
  exact Z.sub [6, 7, 8, 9, 10, 11, 13, 14] rfl (hj233 v216)
end ZWalk
