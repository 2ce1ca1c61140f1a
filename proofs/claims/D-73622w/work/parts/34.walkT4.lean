section ZWalk
variable {p : Program} {l : Launch} {e : Env} {R : Room} {s : State} {m : MethodId} {args : Array Value} {below : List Frame} {meth : Method} {c : Code} {Q : State → Prop} {nL : Nat} {D : ZD} {A : Nat → Prop} {al : Bool} {n0 : Nat × Nat × Nat} {cc : ByteArray} {nm : String} {ret : Option FieldType} {sz mc ms fr lo : Nat}
variable {P : ZM → Prop} {pc : Nat} {L : List (Nat × Value)} {st : List Value}
theorem pfX9_150 (F : ZF p R s m args meth c cc nL "SafeBucketsModel" nm ret D A al sz mc ms fr lo) {z : Nat} {u : Int32} (hdg : decode cc pc = .ok (.putfield 150, 3)) (k : ZW p l e R s m args below meth c Q nL D A al n0 P (pc + 3) L st) : ZW p l e R s m args below meth c Q nL D A al n0 (zpI 7 z 12 u P) pc L (.int u :: zv z :: st) :=
  Z.putI F (ref := "SafeBucketsModel") in_X9 (ci := 6) rfl (by decide) (kf := 12) (by decide) q1582 (fun _ h => h) tyX9 tyX9_ok nmX9 rfl rfl rfl hdg k
theorem pfX9_212 (F : ZF p R s m args meth c cc nL "SafeBucketsModel" nm ret D A al sz mc ms fr lo) {z : Nat} {u : Int32} (hdg : decode cc pc = .ok (.putfield 212, 3)) (k : ZW p l e R s m args below meth c Q nL D A al n0 P (pc + 3) L st) : ZW p l e R s m args below meth c Q nL D A al n0 (zpI 7 z 23 u P) pc L (.int u :: zv z :: st) :=
  Z.putI F (ref := "SafeBucketsModel") in_X9 (ci := 6) rfl (by decide) (kf := 23) (by decide) q1593 (fun _ h => h) tyX9 tyX9_ok nmX9 rfl rfl rfl hdg k
theorem pfX9_215 (F : ZF p R s m args meth c cc nL "SafeBucketsModel" nm ret D A al sz mc ms fr lo) {z : Nat} {u : Int32} (hdg : decode cc pc = .ok (.putfield 215, 3)) (k : ZW p l e R s m args below meth c Q nL D A al n0 P (pc + 3) L st) : ZW p l e R s m args below meth c Q nL D A al n0 (zpZ 7 z 32 u P) pc L (.int u :: zv z :: st) :=
  Z.putZ F (ref := "SafeBucketsModel") in_X9 (ci := 6) rfl (by decide) (kf := 32) (by decide) q1602 (fun _ h => h) tyX9 tyX9_ok nmX9 rfl rfl rfl hdg k
theorem gfX9_150 (F : ZF p R s m args meth c cc nL "SafeBucketsModel" nm ret D A al sz mc ms fr lo) {z : Nat} {K : Int32 → ZM → Prop} (hdg : decode cc pc = .ok (.getfield 150, 3)) (k : ∀ u, ZW p l e R s m args below meth c Q nL D A al n0 (K u) (pc + 3) L (.int u :: st)) : ZW p l e R s m args below meth c Q nL D A al n0 (zgI 7 z 12 K) pc L (zv z :: st) :=
  Z.getI F (ref := "SafeBucketsModel") in_X9 (ci := 6) rfl (by decide) (kf := 12) (by decide) q1582 (fun _ h => h) rfl hdg k
theorem clX9_209 (F : ZF p R s m args meth c cc nL "SafeBucketsModel" nm ret D A al sz mc ms fr lo) {h0 : Nat} {x1 : Int32} {x2 : Int32} {K : ZM → Prop} (hR : 3 + 1 ≤ fr ∧ 8 + (8 + 11) + 79 ≤ lo) (hst4 : zlw st) (hdg : decode cc pc = .ok (.invokevirtual 209, 3)) (k : ZW p l e R s m args below meth c Q nL D A al n0 K (pc + 3) L st) : ZW p l e R s m args below meth c Q nL D A al n0 (zat 7 h0 (f_X9_buildNow h0 x1 x2 K)) pc L (.int x2 :: .int x1 :: zv h0 :: st) :=
  Z.rv0 _ (fun μ H locs cells slots ls hI h hP => Z.V0 F hI (n := 2) (ci := 6) rfl (by decide) hP.1 hP.2 (k_X9_buildNow l h0 x1 x2 D A (zX μ, zC μ, zS μ) H.size K μ) q1757 q1759 qs58 q126 q1760 (by decide +kernel) rfl h.1 hst4 hR rfl hdg) k
set_option maxHeartbeats 4000000 in
theorem k_X9_takeBook (l : Launch) (h0 : Nat) : ZCi l yX9_takeBook (ws_ yX9_takeBook cX9_takeBook 2 (some .int)) 4 106 0 0 false [zv h0] (f_X9_takeBook h0) := by
  refine Z.metI (by decide +kernel) (fun h => ⟨rfl, rfl⟩) (L0 := [(0, zv h0)]) (by first | (rw [zla_v, zla_0]; done) | (rw [zla_v, zla_0]; rfl)) (by rw [zsl_v, zsl_0]; exact Nat.le_of_ble_eq_true rfl) ?_
  intro p e R s m args below meth c D A n0 sz k F
  have F : ZF p R s m args meth c cX9_takeBook 2 "SafeBucketsModel" "takeBook" (some .int) D A false sz 0 0 4 106 := F
  unfold f_X9_takeBook
  refine Z.aload_n F 0 rfl dX9_takeBook_0 ?_
  refine Z.aload_n F 0 rfl dX9_takeBook_1 ?_
  refine gfX9_122 F dX9_takeBook_2 (fun g2 => ?_)
  refine pfX9_150 F dX9_takeBook_5 ?_
  refine Z.iconst F (v := (0 : Int32)) (by decide) dX9_takeBook_8 ?_
  refine Z.istore_n F (L0 := [(0, zv h0)]) [0] rfl (zkR rfl zkN) (by decide) dX9_takeBook_9 ?_
  refine Z.jn0 (J := _) ([(0, zv h0)]) ([]) 33 (?_) (fun j33 hj33 => ?_)
  · refine Z.iconst F (v := (0 : Int32)) (by decide) dX9_takeBook_33 ?_
    refine Z.istore_n F (L0 := [(0, zv h0)]) [0] rfl (zkR rfl zkN) (by decide) dX9_takeBook_34 ?_
    refine Z.jn0 (J := _) ([(0, zv h0)]) ([]) 55 (?_) (fun j55 hj55 => ?_)
    · refine Z.aload_n F 0 rfl dX9_takeBook_55 ?_
      refine gfX9_34 F dX9_takeBook_56 (fun g56 => ?_)
      refine Z.sipush F (v := (1071 : Int32)) (by decide) dX9_takeBook_59 ?_
      refine Z.aload_n F 0 rfl dX9_takeBook_62 ?_
      refine gfX9_22 F dX9_takeBook_63 (fun g63 => ?_)
      refine Z.iconst F (v := (2 : Int32)) (by decide) dX9_takeBook_66 ?_
      refine Z.iald F dX9_takeBook_67 (fun g67 => ?_)
      refine Z.iast F dX9_takeBook_68 ?_
      refine Z.iconst F (v := (0 : Int32)) (by decide) dX9_takeBook_69 ?_
      refine Z.istore_n F (L0 := [(0, zv h0)]) [0] rfl (zkR rfl zkN) (by decide) dX9_takeBook_70 ?_
      refine Z.jn0 (J := _) ([(0, zv h0)]) ([]) 97 (?_) (fun j97 hj97 => ?_)
      · refine Z.iconst F (v := (0 : Int32)) (by decide) dX9_takeBook_97 ?_
        refine Z.istore_n F (L0 := [(0, zv h0)]) [0] rfl (zkR rfl zkN) (by decide) dX9_takeBook_98 ?_
        refine Z.jn0 (J := _) ([(0, zv h0)]) ([]) 164 (?_) (fun j164 hj164 => ?_)
        · refine Z.iconst F (v := (0 : Int32)) (by decide) dX9_takeBook_164 ?_
          refine Z.istore_n F (L0 := [(0, zv h0)]) [0] rfl (zkR rfl zkN) (by decide) dX9_takeBook_165 ?_
          refine Z.jn0 (J := _) ([(0, zv h0)]) ([]) 192 (?_) (fun j192 hj192 => ?_)
          · refine Z.aload_n F 0 rfl dX9_takeBook_192 ?_
            refine Z.iconst F (v := (0 : Int32)) (by decide) dX9_takeBook_193 ?_
            refine pfX9_212 F dX9_takeBook_194 ?_
            refine Z.aload_n F 0 rfl dX9_takeBook_197 ?_
            refine Z.iconst F (v := (0 : Int32)) (by decide) dX9_takeBook_198 ?_
            refine pfX9_215 F dX9_takeBook_199 ?_
            refine Z.aload_n F 0 rfl dX9_takeBook_202 ?_
            refine gfX9_150 F dX9_takeBook_203 (fun g203 => ?_)
            exact Z.iret F dX9_takeBook_206
          refine Z.sub [1, 0] rfl ?_
          refine Z.w1 (Lf := fun p166l1 => [(0, zv h0), (1, .int p166l1)]) (sf := fun p166l1 => []) (fun r166 hr166 p166l1 => ?_) (0 : Int32)
          refine Z.iload_n F 1 rfl dX9_takeBook_166 ?_
          refine Z.aload_n F 0 rfl dX9_takeBook_167 ?_
          refine gfX9_150 F dX9_takeBook_168 (fun g168 => ?_)
          refine Z.icmp_ge F (tgt := 192) dX9_takeBook_171 (by decide) ?_ ?_
          · exact Z.sub [0] rfl (hj192)
          refine Z.aload_n F 0 rfl dX9_takeBook_174 ?_
          refine Z.iload_n F 1 rfl dX9_takeBook_175 ?_
          refine Z.iconst F (v := (0 : Int32)) (by decide) dX9_takeBook_176 ?_
          refine clX9_209 F ⟨Nat.le_of_ble_eq_true rfl, Nat.le_of_ble_eq_true rfl⟩ (zlw4 (Nat.le_of_ble_eq_true rfl)) dX9_takeBook_177 ?_
          refine Z.aload_n F 0 rfl dX9_takeBook_180 ?_
          refine Z.iload_n F 1 rfl dX9_takeBook_181 ?_
          refine Z.iconst F (v := (1 : Int32)) (by decide) dX9_takeBook_182 ?_
          refine clX9_209 F ⟨Nat.le_of_ble_eq_true rfl, Nat.le_of_ble_eq_true rfl⟩ (zlw4 (Nat.le_of_ble_eq_true rfl)) dX9_takeBook_183 ?_
          refine Z.iinc F (L0 := [(0, zv h0)]) (k0 := 1) (v := (1 : Int32)) rfl (by decide) [0] rfl (zkR rfl zkN) (by decide) dX9_takeBook_186 ?_
          refine Z.goto F (tgt := 166) dX9_takeBook_189 (by decide) ?_
          exact Z.sub [1, 0] rfl (hr166 (p166l1 + (1 : Int32)))
        refine Z.sub [1, 0] rfl ?_
        refine Z.w1 (Lf := fun p99l1 => [(0, zv h0), (1, .int p99l1)]) (sf := fun p99l1 => []) (fun r99 hr99 p99l1 => ?_) (0 : Int32)
        refine Z.iload_n F 1 rfl dX9_takeBook_99 ?_
        refine Z.aload_n F 0 rfl dX9_takeBook_100 ?_
        refine gfX9_125 F dX9_takeBook_101 (fun g101 => ?_)
        refine Z.icmp_ge F (tgt := 164) dX9_takeBook_104 (by decide) ?_ ?_
        · exact Z.sub [0] rfl (hj164)
        refine Z.aload_n F 0 rfl dX9_takeBook_107 ?_
        refine gfX9_34 F dX9_takeBook_108 (fun g108 => ?_)
        refine Z.aload_n F 0 rfl dX9_takeBook_111 ?_
        refine gfX9_19 F dX9_takeBook_112 (fun g112 => ?_)
        refine Z.iconst F (v := (4 : Int32)) (by decide) dX9_takeBook_115 ?_
        refine Z.iload_n F 1 rfl dX9_takeBook_116 ?_
        refine Z.imul F dX9_takeBook_117 ?_
        refine Z.iconst F (v := (0 : Int32)) (by decide) dX9_takeBook_118 ?_
        refine Z.iadd F dX9_takeBook_119 ?_
        refine Z.iald F dX9_takeBook_120 (fun g120 => ?_)
        refine Z.aload_n F 0 rfl dX9_takeBook_121 ?_
        refine gfX9_19 F dX9_takeBook_122 (fun g122 => ?_)
        refine Z.iconst F (v := (4 : Int32)) (by decide) dX9_takeBook_125 ?_
        refine Z.iload_n F 1 rfl dX9_takeBook_126 ?_
        refine Z.imul F dX9_takeBook_127 ?_
        refine Z.iconst F (v := (1 : Int32)) (by decide) dX9_takeBook_128 ?_
        refine Z.iadd F dX9_takeBook_129 ?_
        refine Z.iald F dX9_takeBook_130 (fun g130 => ?_)
        refine Z.aload_n F 0 rfl dX9_takeBook_131 ?_
        refine gfX9_19 F dX9_takeBook_132 (fun g132 => ?_)
        refine Z.iconst F (v := (4 : Int32)) (by decide) dX9_takeBook_135 ?_
        refine Z.iload_n F 1 rfl dX9_takeBook_136 ?_
        refine Z.imul F dX9_takeBook_137 ?_
        refine Z.iconst F (v := (2 : Int32)) (by decide) dX9_takeBook_138 ?_
        refine Z.iadd F dX9_takeBook_139 ?_
        refine Z.iald F dX9_takeBook_140 (fun g140 => ?_)
        refine clX9_158 F ⟨Nat.le_of_ble_eq_true rfl, Nat.le_of_ble_eq_true rfl⟩ (zlw4 (Nat.le_of_ble_eq_true rfl)) dX9_takeBook_141 (fun r141 => ?_)
        refine Z.dup2 F dX9_takeBook_144 ?_
        refine Z.iald F dX9_takeBook_145 (fun g145 => ?_)
        refine Z.aload_n F 0 rfl dX9_takeBook_146 ?_
        refine gfX9_19 F dX9_takeBook_147 (fun g147 => ?_)
        refine Z.iconst F (v := (4 : Int32)) (by decide) dX9_takeBook_150 ?_
        refine Z.iload_n F 1 rfl dX9_takeBook_151 ?_
        refine Z.imul F dX9_takeBook_152 ?_
        refine Z.iconst F (v := (3 : Int32)) (by decide) dX9_takeBook_153 ?_
        refine Z.iadd F dX9_takeBook_154 ?_
        refine Z.iald F dX9_takeBook_155 (fun g155 => ?_)
        refine Z.iadd F dX9_takeBook_156 ?_
        refine Z.iast F dX9_takeBook_157 ?_
        refine Z.iinc F (L0 := [(0, zv h0)]) (k0 := 1) (v := (1 : Int32)) rfl (by decide) [0] rfl (zkR rfl zkN) (by decide) dX9_takeBook_158 ?_
        refine Z.goto F (tgt := 99) dX9_takeBook_161 (by decide) ?_
        exact Z.sub [1, 0] rfl (hr99 (p99l1 + (1 : Int32)))
      refine Z.sub [1, 0] rfl ?_
      refine Z.w1 (Lf := fun p71l1 => [(0, zv h0), (1, .int p71l1)]) (sf := fun p71l1 => []) (fun r71 hr71 p71l1 => ?_) (0 : Int32)
      refine Z.iload_n F 1 rfl dX9_takeBook_71 ?_
      refine Z.aload_n F 0 rfl dX9_takeBook_72 ?_
      refine gfX9_150 F dX9_takeBook_73 (fun g73 => ?_)
      refine Z.icmp_ge F (tgt := 97) dX9_takeBook_76 (by decide) ?_ ?_
      · exact Z.sub [0] rfl (hj97)
      refine Z.aload_n F 0 rfl dX9_takeBook_79 ?_
      refine gfX9_25 F dX9_takeBook_80 (fun g80 => ?_)
      refine Z.iload_n F 1 rfl dX9_takeBook_83 ?_
      refine Z.aload_n F 0 rfl dX9_takeBook_84 ?_
      refine gfX9_16 F dX9_takeBook_85 (fun g85 => ?_)
      refine Z.iload_n F 1 rfl dX9_takeBook_88 ?_
      refine Z.iald F dX9_takeBook_89 (fun g89 => ?_)
      refine Z.iast F dX9_takeBook_90 ?_
      refine Z.iinc F (L0 := [(0, zv h0)]) (k0 := 1) (v := (1 : Int32)) rfl (by decide) [0] rfl (zkR rfl zkN) (by decide) dX9_takeBook_91 ?_
      refine Z.goto F (tgt := 71) dX9_takeBook_94 (by decide) ?_
      exact Z.sub [1, 0] rfl (hr71 (p71l1 + (1 : Int32)))
    refine Z.sub [1, 0] rfl ?_
    refine Z.w1 (Lf := fun p35l1 => [(0, zv h0), (1, .int p35l1)]) (sf := fun p35l1 => []) (fun r35 hr35 p35l1 => ?_) (0 : Int32)
    refine Z.iload_n F 1 rfl dX9_takeBook_35 ?_
    refine Z.sipush F (v := (1253 : Int32)) (by decide) dX9_takeBook_36 ?_
    refine Z.icmp_ge F (tgt := 55) dX9_takeBook_39 (by decide) ?_ ?_
    · exact Z.sub [0] rfl (hj55)
    refine Z.aload_n F 0 rfl dX9_takeBook_42 ?_
    refine gfX9_34 F dX9_takeBook_43 (fun g43 => ?_)
    refine Z.iload_n F 1 rfl dX9_takeBook_46 ?_
    refine Z.iconst F (v := (0 : Int32)) (by decide) dX9_takeBook_47 ?_
    refine Z.iast F dX9_takeBook_48 ?_
    refine Z.iinc F (L0 := [(0, zv h0)]) (k0 := 1) (v := (1 : Int32)) rfl (by decide) [0] rfl (zkR rfl zkN) (by decide) dX9_takeBook_49 ?_
    refine Z.goto F (tgt := 35) dX9_takeBook_52 (by decide) ?_
    exact Z.sub [1, 0] rfl (hr35 (p35l1 + (1 : Int32)))
  refine Z.sub [1, 0] rfl ?_
  refine Z.w1 (Lf := fun p10l1 => [(0, zv h0), (1, .int p10l1)]) (sf := fun p10l1 => []) (fun r10 hr10 p10l1 => ?_) (0 : Int32)
  refine Z.iload_n F 1 rfl dX9_takeBook_10 ?_
  refine Z.iconst F (v := (3 : Int32)) (by decide) dX9_takeBook_11 ?_
  refine Z.icmp_ge F (tgt := 33) dX9_takeBook_12 (by decide) ?_ ?_
  · exact Z.sub [0] rfl (hj33)
  refine Z.aload_n F 0 rfl dX9_takeBook_15 ?_
  refine gfX9_22 F dX9_takeBook_16 (fun g16 => ?_)
  refine Z.iload_n F 1 rfl dX9_takeBook_19 ?_
  refine Z.aload_n F 0 rfl dX9_takeBook_20 ?_
  refine gfX9_13 F dX9_takeBook_21 (fun g21 => ?_)
  refine Z.iload_n F 1 rfl dX9_takeBook_24 ?_
  refine Z.iald F dX9_takeBook_25 (fun g25 => ?_)
  refine Z.iast F dX9_takeBook_26 ?_
  refine Z.iinc F (L0 := [(0, zv h0)]) (k0 := 1) (v := (1 : Int32)) rfl (by decide) [0] rfl (zkR rfl zkN) (by decide) dX9_takeBook_27 ?_
  refine Z.goto F (tgt := 10) dX9_takeBook_30 (by decide) ?_
  exact Z.sub [1, 0] rfl (hr10 (p10l1 + (1 : Int32)))
theorem gfX9_222 (F : ZF p R s m args meth c cc nL "SafeBucketsModel" nm ret D A al sz mc ms fr lo) {z : Nat} {K : Int32 → ZM → Prop} (hdg : decode cc pc = .ok (.getfield 222, 3)) (k : ∀ u, ZW p l e R s m args below meth c Q nL D A al n0 (K u) (pc + 3) L (.int u :: st)) : ZW p l e R s m args below meth c Q nL D A al n0 (zgI 7 z 15 K) pc L (zv z :: st) :=
  Z.getI F (ref := "SafeBucketsModel") in_X9 (ci := 6) rfl (by decide) (kf := 15) (by decide) q1585 (fun _ h => h) rfl hdg k
theorem pfX9_222 (F : ZF p R s m args meth c cc nL "SafeBucketsModel" nm ret D A al sz mc ms fr lo) {z : Nat} {u : Int32} (hdg : decode cc pc = .ok (.putfield 222, 3)) (k : ZW p l e R s m args below meth c Q nL D A al n0 P (pc + 3) L st) : ZW p l e R s m args below meth c Q nL D A al n0 (zpI 7 z 15 u P) pc L (.int u :: zv z :: st) :=
  Z.putI F (ref := "SafeBucketsModel") in_X9 (ci := 6) rfl (by decide) (kf := 15) (by decide) q1585 (fun _ h => h) tyX9 tyX9_ok nmX9 rfl rfl rfl hdg k
theorem clX9_219 (F : ZF p R s m args meth c cc nL "SafeBucketsModel" nm ret D A al sz mc ms fr lo) {h0 : Nat} {K : Int32 → ZM → Prop} (hR : 4 + 1 ≤ fr ∧ 8 + (2 + 11) + 106 ≤ lo) (hst4 : zlw st) (hdg : decode cc pc = .ok (.invokevirtual 219, 3)) (k : ∀ r, ZW p l e R s m args below meth c Q nL D A al n0 (K r) (pc + 3) L (.int r :: st)) : ZW p l e R s m args below meth c Q nL D A al n0 (zat 7 h0 (f_X9_takeBook h0 K)) pc L (zv h0 :: st) :=
  Z.ri0 _ (fun μ H locs cells slots ls hI h hP => Z.V0 F hI (n := 0) (ci := 6) rfl (by decide) hP.1 hP.2 (k_X9_takeBook l h0 D A (zX μ, zC μ, zS μ) H.size K μ) q1750 q1752 qs57 q126 q1753 (by decide +kernel) rfl h.1 hst4 hR rfl hdg) k
set_option maxHeartbeats 4000000 in
theorem k_X9_text (l : Launch) (h0 : Nat) (x1 : Int32) : ZCi l yX9_text (ws_ yX9_text cX9_text 2 (some .int)) 5 127 0 0 false [zv h0, .int x1] (f_X9_text h0 x1) := by
  refine Z.metI (by decide +kernel) (fun h => ⟨rfl, rfl⟩) (L0 := [(0, zv h0), (1, .int x1)]) (by first | (rw [zla_v, zla_i, zla_0]; done) | (rw [zla_v, zla_i, zla_0]; rfl)) (by rw [zsl_v, zsl_i, zsl_0]; exact Nat.le_of_ble_eq_true rfl) ?_
  intro p e R s m args below meth c D A n0 sz k F
  have F : ZF p R s m args meth c cX9_text 2 "SafeBucketsModel" "text" (some .int) D A false sz 0 0 5 127 := F
  unfold f_X9_text
  refine Z.iload_n F 1 rfl dX9_text_0 ?_
  refine Z.jn0 (J := _) ([(0, zv h0), (1, .int x1)]) ([]) 22 (?_) (fun j22 hj22 => ?_)
  · refine Z.iload_n F 1 rfl dX9_text_22 ?_
    refine Z.iconst F (v := (1 : Int32)) (by decide) dX9_text_23 ?_
    refine Z.jn0 (J := _) ([]) ([]) 69 (?_) (fun j69 hj69 => ?_)
    · refine Z.iconst F (v := (-1 : Int32)) (by decide) dX9_text_69 ?_
      exact Z.iret F dX9_text_70
    refine Z.icmp_ne F (tgt := 69) dX9_text_24 (by decide) ?_ ?_
    · exact Z.sub [] rfl (hj69)
    refine Z.aload_n F 0 rfl dX9_text_27 ?_
    refine gfX9_222 F dX9_text_28 (fun g28 => ?_)
    refine Z.iconst F (v := (4 : Int32)) (by decide) dX9_text_31 ?_
    refine Z.icmp_ge F (tgt := 69) dX9_text_32 (by decide) ?_ ?_
    · exact Z.sub [] rfl (hj69)
    refine Z.aload_n F 0 rfl dX9_text_35 ?_
    refine Z.aload_n F 0 rfl dX9_text_36 ?_
    refine gfX9_222 F dX9_text_37 (fun g37 => ?_)
    refine clX9_143 F ⟨Nat.le_of_ble_eq_true rfl, Nat.le_of_ble_eq_true rfl⟩ (zlw4 (Nat.le_of_ble_eq_true rfl)) dX9_text_40 (fun r40 => ?_)
    refine Z.iconst F (v := (-1 : Int32)) (by decide) dX9_text_43 ?_
    refine Z.icmp_ne F (tgt := 69) dX9_text_44 (by decide) ?_ ?_
    · exact Z.sub [] rfl (hj69)
    refine Z.aload_n F 0 rfl dX9_text_47 ?_
    refine Z.iconst F (v := (0 : Int32)) (by decide) dX9_text_48 ?_
    refine pfX9_74 F dX9_text_49 ?_
    refine Z.aload_n F 0 rfl dX9_text_52 ?_
    refine Z.dup F dX9_text_53 ?_
    refine gfX9_222 F dX9_text_54 (fun g54 => ?_)
    refine Z.iconst F (v := (1 : Int32)) (by decide) dX9_text_57 ?_
    refine Z.iadd F dX9_text_58 ?_
    refine pfX9_222 F dX9_text_59 ?_
    refine Z.aload_n F 0 rfl dX9_text_62 ?_
    refine gfX9_222 F dX9_text_63 (fun g63 => ?_)
    refine Z.iconst F (v := (1 : Int32)) (by decide) dX9_text_66 ?_
    refine Z.isub F dX9_text_67 ?_
    exact Z.iret F dX9_text_68
  refine Z.if_ne F (tgt := 22) dX9_text_1 (by decide) ?_ ?_
  · exact Z.sub [0, 1] rfl (hj22)
  refine Z.aload_n F 0 rfl dX9_text_4 ?_
  refine clX9_140 F ⟨Nat.le_of_ble_eq_true rfl, Nat.le_of_ble_eq_true rfl⟩ (zlw4 (Nat.le_of_ble_eq_true rfl)) dX9_text_5 (fun r5 => ?_)
  refine Z.iconst F (v := (-1 : Int32)) (by decide) dX9_text_8 ?_
  refine Z.icmp_ne F (tgt := 22) dX9_text_9 (by decide) ?_ ?_
  · exact Z.sub [0, 1] rfl (hj22)
  refine Z.aload_n F 0 rfl dX9_text_12 ?_
  refine Z.iconst F (v := (0 : Int32)) (by decide) dX9_text_13 ?_
  refine pfX9_74 F dX9_text_14 ?_
  refine Z.aload_n F 0 rfl dX9_text_17 ?_
  refine clX9_219 F ⟨Nat.le_of_ble_eq_true rfl, Nat.le_of_ble_eq_true rfl⟩ (zlw4 (Nat.le_of_ble_eq_true rfl)) dX9_text_18 (fun r18 => ?_)
  exact Z.iret F dX9_text_21
set_option maxHeartbeats 4000000 in
theorem k_X9_isBook (l : Launch) (h0 : Nat) : ZCi l yX9_isBook (ws_ yX9_isBook cX9_isBook 1 (some .boolean)) 0 0 0 0 false [zv h0] (f_X9_isBook h0) := by
  refine Z.metZ (by decide +kernel) (fun h => ⟨rfl, rfl⟩) (L0 := [(0, zv h0)]) (by first | (rw [zla_v, zla_0]; done) | (rw [zla_v, zla_0]; rfl)) (by rw [zsl_v, zsl_0]; exact Nat.le_of_ble_eq_true rfl) ?_
  intro p e R s m args below meth c D A n0 sz k F
  have F : ZF p R s m args meth c cX9_isBook 1 "SafeBucketsModel" "isBook" (some .boolean) D A false sz 0 0 0 0 := F
  unfold f_X9_isBook
  refine Z.aload_n F 0 rfl dX9_isBook_0 ?_
  refine gfX9_150 F dX9_isBook_1 (fun g1 => ?_)
  refine Z.jn1 (J := _) (fun p12s0 => []) (fun p12s0 => [.int p12s0]) 12 (fun p12s0 => ?_) (fun j12 hj12 => ?_)
  · exact Z.zret F dX9_isBook_12
  refine Z.if_le F (tgt := 11) dX9_isBook_4 (by decide) ?_ ?_
  · refine Z.iconst F (v := (0 : Int32)) (by decide) dX9_isBook_11 ?_
    exact Z.sub [] rfl (hj12 (0 : Int32))
  refine Z.iconst F (v := (1 : Int32)) (by decide) dX9_isBook_7 ?_
  refine Z.goto F (tgt := 12) dX9_isBook_8 (by decide) ?_
  exact Z.sub [] rfl (hj12 (1 : Int32))
theorem clX9_225 (F : ZF p R s m args meth c cc nL "SafeBucketsModel" nm ret D A al sz mc ms fr lo) {h0 : Nat} {K : Int32 → ZM → Prop} (hR : 0 + 1 ≤ fr ∧ 8 + (1 + 11) + 0 ≤ lo) (hst4 : zlw st) (hdg : decode cc pc = .ok (.invokevirtual 225, 3)) (k : ∀ r, ZW p l e R s m args below meth c Q nL D A al n0 (K r) (pc + 3) L (.int r :: st)) : ZW p l e R s m args below meth c Q nL D A al n0 (zat 7 h0 (f_X9_isBook h0 K)) pc L (zv h0 :: st) :=
  Z.ri0 _ (fun μ H locs cells slots ls hI h hP => Z.V0 F hI (n := 0) (ci := 6) rfl (by decide) hP.1 hP.2 (k_X9_isBook l h0 D A (zX μ, zC μ, zS μ) H.size K μ) q1803 q1805 qs65 q126 q1806 (by decide +kernel) rfl h.1 hst4 hR rfl hdg) k
set_option maxHeartbeats 4000000 in
theorem k_X9_rule (l : Launch) (h0 : Nat) (x1 : Int32) : ZCi l yX9_rule (ws_ yX9_rule cX9_rule 2 (some .int)) 1 25 0 0 false [zv h0, .int x1] (f_X9_rule h0 x1) := by
  refine Z.metI (by decide +kernel) (fun h => ⟨rfl, rfl⟩) (L0 := [(0, zv h0), (1, .int x1)]) (by first | (rw [zla_v, zla_i, zla_0]; done) | (rw [zla_v, zla_i, zla_0]; rfl)) (by rw [zsl_v, zsl_i, zsl_0]; exact Nat.le_of_ble_eq_true rfl) ?_
  intro p e R s m args below meth c D A n0 sz k F
  have F : ZF p R s m args meth c cX9_rule 2 "SafeBucketsModel" "rule" (some .int) D A false sz 0 0 1 25 := F
  unfold f_X9_rule
  refine Z.aload_n F 0 rfl dX9_rule_0 ?_
  refine clX9_225 F ⟨Nat.le_of_ble_eq_true rfl, Nat.le_of_ble_eq_true rfl⟩ (zlw4 (Nat.le_of_ble_eq_true rfl)) dX9_rule_1 (fun r1 => ?_)
  refine Z.jn1 (J := _) (fun p45s0 => []) (fun p45s0 => [.int p45s0]) 45 (fun p45s0 => ?_) (fun j45 hj45 => ?_)
  · exact Z.iret F dX9_rule_45
  refine Z.jn0 (J := _) ([]) ([]) 19 (?_) (fun j19 hj19 => ?_)
  · refine Z.iconst F (v := (-1 : Int32)) (by decide) dX9_rule_19 ?_
    refine Z.goto F (tgt := 45) dX9_rule_20 (by decide) ?_
    exact Z.sub [] rfl (hj45 (-1 : Int32))
  refine Z.if_eq F (tgt := 19) dX9_rule_4 (by decide) ?_ ?_
  · exact Z.sub [] rfl (hj19)
  refine Z.iload_n F 1 rfl dX9_rule_7 ?_
  refine Z.i2l F dX9_rule_8 ?_
  refine Z.lconst F (w := (0 : Int64)) (by decide) dX9_rule_9 ?_
  refine Z.ldc2 F q1807 dX9_rule_10 ?_
  refine clX9_77 F ⟨Nat.le_of_ble_eq_true rfl, Nat.le_of_ble_eq_true rfl⟩ (zlw4 (Nat.le_of_ble_eq_true rfl)) dX9_rule_13 (fun r13 => ?_)
  refine Z.if_ne F (tgt := 23) dX9_rule_16 (by decide) ?_ ?_
  · refine Z.iload_n F 1 rfl dX9_rule_23 ?_
    refine Z.iconst F (v := (2 : Int32)) (by decide) dX9_rule_24 ?_
    refine Z.icmp_ne F (tgt := 39) dX9_rule_25 (by decide) ?_ ?_
    · refine Z.aload_n F 0 rfl dX9_rule_39 ?_
      refine gfX9_22 F dX9_rule_40 (fun g40 => ?_)
      refine Z.iload_n F 1 rfl dX9_rule_43 ?_
      refine Z.iald F dX9_rule_44 (fun g44 => ?_)
      exact Z.sub [] rfl (hj45 g44)
    refine Z.aload_n F 0 rfl dX9_rule_28 ?_
    refine gfX9_34 F dX9_rule_29 (fun g29 => ?_)
    refine Z.sipush F (v := (1071 : Int32)) (by decide) dX9_rule_32 ?_
    refine Z.iald F dX9_rule_35 (fun g35 => ?_)
    refine Z.goto F (tgt := 45) dX9_rule_36 (by decide) ?_
    exact Z.sub [] rfl (hj45 g35)
  exact Z.sub [] rfl (hj19)
set_option maxHeartbeats 4000000 in
theorem k_X9_isTable (l : Launch) (h0 : Nat) (x1 : Int32) : ZCi l yX9_isTable (ws_ yX9_isTable cX9_isTable 2 (some .boolean)) 1 25 0 0 false [zv h0, .int x1] (f_X9_isTable h0 x1) := by
  refine Z.metZ (by decide +kernel) (fun h => ⟨rfl, rfl⟩) (L0 := [(0, zv h0), (1, .int x1)]) (by first | (rw [zla_v, zla_i, zla_0]; done) | (rw [zla_v, zla_i, zla_0]; rfl)) (by rw [zsl_v, zsl_i, zsl_0]; exact Nat.le_of_ble_eq_true rfl) ?_
  intro p e R s m args below meth c D A n0 sz k F
  have F : ZF p R s m args meth c cX9_isTable 2 "SafeBucketsModel" "isTable" (some .boolean) D A false sz 0 0 1 25 := F
  unfold f_X9_isTable
  refine Z.iload_n F 1 rfl dX9_isTable_0 ?_
  refine Z.i2l F dX9_isTable_1 ?_
  refine Z.lconst F (w := (0 : Int64)) (by decide) dX9_isTable_2 ?_
  refine Z.aload_n F 0 rfl dX9_isTable_3 ?_
  refine gfX9_150 F dX9_isTable_4 (fun g4 => ?_)
  refine Z.iconst F (v := (1 : Int32)) (by decide) dX9_isTable_7 ?_
  refine Z.isub F dX9_isTable_8 ?_
  refine Z.i2l F dX9_isTable_9 ?_
  refine clX9_77 F ⟨Nat.le_of_ble_eq_true rfl, Nat.le_of_ble_eq_true rfl⟩ (zlw4 (Nat.le_of_ble_eq_true rfl)) dX9_isTable_10 (fun r10 => ?_)
  exact Z.zret F dX9_isTable_13
set_option maxHeartbeats 4000000 in
theorem k_X9_rowsOf (l : Launch) (h0 : Nat) (x1 : Int32) : ZCi l yX9_rowsOf (ws_ yX9_rowsOf cX9_rowsOf 4 (some .int)) 0 0 0 0 false [zv h0, .int x1] (f_X9_rowsOf h0 x1) := by
  refine Z.metI (by decide +kernel) (fun h => ⟨rfl, rfl⟩) (L0 := [(0, zv h0), (1, .int x1)]) (by first | (rw [zla_v, zla_i, zla_0]; done) | (rw [zla_v, zla_i, zla_0]; rfl)) (by rw [zsl_v, zsl_i, zsl_0]; exact Nat.le_of_ble_eq_true rfl) ?_
  intro p e R s m args below meth c D A n0 sz k F
  have F : ZF p R s m args meth c cX9_rowsOf 4 "SafeBucketsModel" "rowsOf" (some .int) D A false sz 0 0 0 0 := F
  unfold f_X9_rowsOf
  refine Z.iconst F (v := (0 : Int32)) (by decide) dX9_rowsOf_0 ?_
  refine Z.istore_n F (L0 := [(0, zv h0), (1, .int x1)]) [0, 1] rfl (zkR rfl (zkI rfl zkN)) (by decide) dX9_rowsOf_1 ?_
  refine Z.iconst F (v := (0 : Int32)) (by decide) dX9_rowsOf_2 ?_
  refine Z.istore_n F (L0 := [(2, .int (0 : Int32)), (0, zv h0), (1, .int x1)]) [0, 1, 2] rfl (zkI rfl (zkR rfl (zkI rfl zkN))) (by decide) dX9_rowsOf_3 ?_
  refine Z.sub [2, 3, 1, 0] rfl ?_
  refine Z.w2 (Lf := fun p4l2 p4l3 => [(0, zv h0), (1, .int x1), (2, .int p4l2), (3, .int p4l3)]) (sf := fun p4l2 p4l3 => []) (fun r4 hr4 p4l2 p4l3 => ?_) (0 : Int32) (0 : Int32)
  refine Z.iload_n F 3 rfl dX9_rowsOf_4 ?_
  refine Z.sipush F (v := (289 : Int32)) (by decide) dX9_rowsOf_5 ?_
  refine Z.icmp_ge F (tgt := 32) dX9_rowsOf_8 (by decide) ?_ ?_
  · refine Z.iload_n F 2 rfl dX9_rowsOf_32 ?_
    exact Z.iret F dX9_rowsOf_33
  refine Z.iload_n F 2 rfl dX9_rowsOf_11 ?_
  refine Z.aload_n F 0 rfl dX9_rowsOf_12 ?_
  refine gfX9_34 F dX9_rowsOf_13 (fun g13 => ?_)
  refine Z.sipush F (v := (357 : Int32)) (by decide) dX9_rowsOf_16 ?_
  refine Z.iload_n F 1 rfl dX9_rowsOf_19 ?_
  refine Z.imul F dX9_rowsOf_20 ?_
  refine Z.iload_n F 3 rfl dX9_rowsOf_21 ?_
  refine Z.iadd F dX9_rowsOf_22 ?_
  refine Z.iald F dX9_rowsOf_23 (fun g23 => ?_)
  refine Z.iadd F dX9_rowsOf_24 ?_
  refine Z.istore_n F (L0 := [(0, zv h0), (1, .int x1), (3, .int p4l3)]) [0, 1, 3] rfl (zkR rfl (zkI rfl (zkI rfl zkN))) (by decide) dX9_rowsOf_25 ?_
  refine Z.iinc F (L0 := [(2, .int (p4l2 + g23)), (0, zv h0), (1, .int x1)]) (k0 := 3) (v := (1 : Int32)) rfl (by decide) [0, 1, 2] rfl (zkI rfl (zkR rfl (zkI rfl zkN))) (by decide) dX9_rowsOf_26 ?_
  refine Z.goto F (tgt := 4) dX9_rowsOf_29 (by decide) ?_
  exact Z.sub [2, 3, 1, 0] rfl (hr4 (p4l2 + g23) (p4l3 + (1 : Int32)))
theorem clX9_153 (F : ZF p R s m args meth c cc nL "SafeBucketsModel" nm ret D A al sz mc ms fr lo) {h0 : Nat} {x1 : Int32} {K : Int32 → ZM → Prop} (hR : 1 + 1 ≤ fr ∧ 8 + (2 + 11) + 25 ≤ lo) (hst4 : zlw st) (hdg : decode cc pc = .ok (.invokevirtual 153, 3)) (k : ∀ r, ZW p l e R s m args below meth c Q nL D A al n0 (K r) (pc + 3) L (.int r :: st)) : ZW p l e R s m args below meth c Q nL D A al n0 (zat 7 h0 (f_X9_isTable h0 x1 K)) pc L (.int x1 :: zv h0 :: st) :=
  Z.ri0 _ (fun μ H locs cells slots ls hI h hP => Z.V0 F hI (n := 1) (ci := 6) rfl (by decide) hP.1 hP.2 (k_X9_isTable l h0 x1 D A (zX μ, zC μ, zS μ) H.size K μ) q1812 q1814 qs66 q126 q1815 (by decide +kernel) rfl h.1 hst4 hR rfl hdg) k
theorem pfX9_66 (F : ZF p R s m args meth c cc nL "SafeBucketsModel" nm ret D A al sz mc ms fr lo) {z : Nat} {u : Int32} (hdg : decode cc pc = .ok (.putfield 66, 3)) (k : ZW p l e R s m args below meth c Q nL D A al n0 P (pc + 3) L st) : ZW p l e R s m args below meth c Q nL D A al n0 (zpI 7 z 0 u P) pc L (.int u :: zv z :: st) :=
  Z.putI F (ref := "SafeBucketsModel") in_X9 (ci := 6) rfl (by decide) (kf := 0) (by decide) q1570 (fun _ h => h) tyX9 tyX9_ok nmX9 rfl rfl rfl hdg k
theorem clX9_161 (F : ZF p R s m args meth c cc nL "SafeBucketsModel" nm ret D A al sz mc ms fr lo) {h0 : Nat} {x1 : Int32} {K : Int32 → ZM → Prop} (hR : 0 + 1 ≤ fr ∧ 8 + (4 + 11) + 0 ≤ lo) (hst4 : zlw st) (hdg : decode cc pc = .ok (.invokevirtual 161, 3)) (k : ∀ r, ZW p l e R s m args below meth c Q nL D A al n0 (K r) (pc + 3) L (.int r :: st)) : ZW p l e R s m args below meth c Q nL D A al n0 (zat 7 h0 (f_X9_rowsOf h0 x1 K)) pc L (.int x1 :: zv h0 :: st) :=
  Z.ri0 _ (fun μ H locs cells slots ls hI h hP => Z.V0 F hI (n := 1) (ci := 6) rfl (by decide) hP.1 hP.2 (k_X9_rowsOf l h0 x1 D A (zX μ, zC μ, zS μ) H.size K μ) q1817 q1819 qs67 q126 q1820 (by decide +kernel) rfl h.1 hst4 hR rfl hdg) k
set_option maxHeartbeats 4000000 in
theorem k_X9_table (l : Launch) (h0 : Nat) (x1 : Int32) (x2 : Int32) : ZCi l yX9_table (ws_ yX9_table cX9_table 3 (some .int)) 2 48 0 0 false [zv h0, .int x1, .int x2] (f_X9_table h0 x1 x2) := by
  refine Z.metI (by decide +kernel) (fun h => ⟨rfl, rfl⟩) (L0 := [(0, zv h0), (1, .int x1), (2, .int x2)]) (by first | (rw [zla_v, zla_i, zla_i, zla_0]; done) | (rw [zla_v, zla_i, zla_i, zla_0]; rfl)) (by rw [zsl_v, zsl_i, zsl_i, zsl_0]; exact Nat.le_of_ble_eq_true rfl) ?_
  intro p e R s m args below meth c D A n0 sz k F
  have F : ZF p R s m args meth c cX9_table 3 "SafeBucketsModel" "table" (some .int) D A false sz 0 0 2 48 := F
  unfold f_X9_table
  refine Z.aload_n F 0 rfl dX9_table_0 ?_
  refine Z.aload_n F 0 rfl dX9_table_1 ?_
  refine Z.iload_n F 1 rfl dX9_table_2 ?_
  refine clX9_153 F ⟨Nat.le_of_ble_eq_true rfl, Nat.le_of_ble_eq_true rfl⟩ (zlw4 (Nat.le_of_ble_eq_true rfl)) dX9_table_3 (fun r3 => ?_)
  refine Z.jn1 (J := _) (fun p26s1 => [(0, zv h0), (1, .int x1), (2, .int x2)]) (fun p26s1 => [.int p26s1, zv h0]) 26 (fun p26s1 => ?_) (fun j26 hj26 => ?_)
  · refine pfX9_66 F dX9_table_26 ?_
    refine Z.aload_n F 0 rfl dX9_table_29 ?_
    refine gfX9_66 F dX9_table_30 (fun g30 => ?_)
    refine Z.iconst F (v := (1 : Int32)) (by decide) dX9_table_33 ?_
    refine Z.icmp_ne F (tgt := 39) dX9_table_34 (by decide) ?_ ?_
    · refine Z.iload_n F 2 rfl dX9_table_39 ?_
      refine Z.jn1 (J := _) (fun p74s0 => []) (fun p74s0 => [.int p74s0]) 74 (fun p74s0 => ?_) (fun j74 hj74 => ?_)
      · exact Z.iret F dX9_table_74
      refine Z.if_ne F (tgt := 52) dX9_table_40 (by decide) ?_ ?_
      · refine Z.iload_n F 2 rfl dX9_table_52 ?_
        refine Z.iconst F (v := (1 : Int32)) (by decide) dX9_table_53 ?_
        refine Z.icmp_ne F (tgt := 65) dX9_table_54 (by decide) ?_ ?_
        · refine Z.aload_n F 0 rfl dX9_table_65 ?_
          refine Z.iload_n F 1 rfl dX9_table_66 ?_
          refine Z.iload_n F 2 rfl dX9_table_67 ?_
          refine Z.iconst F (v := (2 : Int32)) (by decide) dX9_table_68 ?_
          refine Z.isub F dX9_table_69 ?_
          refine Z.iconst F (v := (-1 : Int32)) (by decide) dX9_table_70 ?_
          refine clX9_167 F ⟨Nat.le_of_ble_eq_true rfl, Nat.le_of_ble_eq_true rfl⟩ (zlw4 (Nat.le_of_ble_eq_true rfl)) dX9_table_71 (fun r71 => ?_)
          exact Z.sub [] rfl (hj74 r71)
        refine Z.aload_n F 0 rfl dX9_table_57 ?_
        refine Z.iload_n F 1 rfl dX9_table_58 ?_
        refine clX9_161 F ⟨Nat.le_of_ble_eq_true rfl, Nat.le_of_ble_eq_true rfl⟩ (zlw4 (Nat.le_of_ble_eq_true rfl)) dX9_table_59 (fun r59 => ?_)
        refine Z.goto F (tgt := 74) dX9_table_62 (by decide) ?_
        exact Z.sub [] rfl (hj74 r59)
      refine Z.aload_n F 0 rfl dX9_table_43 ?_
      refine gfX9_25 F dX9_table_44 (fun g44 => ?_)
      refine Z.iload_n F 1 rfl dX9_table_47 ?_
      refine Z.iald F dX9_table_48 (fun g48 => ?_)
      refine Z.goto F (tgt := 74) dX9_table_49 (by decide) ?_
      exact Z.sub [] rfl (hj74 g48)
    refine Z.iconst F (v := (0 : Int32)) (by decide) dX9_table_37 ?_
    exact Z.iret F dX9_table_38
  refine Z.jn0 (J := _) ([(0, zv h0), (1, .int x1), (2, .int x2)]) ([zv h0]) 25 (?_) (fun j25 hj25 => ?_)
  · refine Z.iconst F (v := (1 : Int32)) (by decide) dX9_table_25 ?_
    exact Z.sub [0, 1, 2] rfl (hj26 (1 : Int32))
  refine Z.if_eq F (tgt := 25) dX9_table_6 (by decide) ?_ ?_
  · exact Z.sub [0, 1, 2] rfl (hj25)
  refine Z.iload_n F 2 rfl dX9_table_9 ?_
  refine Z.i2l F dX9_table_10 ?_
  refine Z.lconst F (w := (0 : Int64)) (by decide) dX9_table_11 ?_
  refine Z.ldc2 F q1816 dX9_table_12 ?_
  refine clX9_77 F ⟨Nat.le_of_ble_eq_true rfl, Nat.le_of_ble_eq_true rfl⟩ (zlw4 (Nat.le_of_ble_eq_true rfl)) dX9_table_15 (fun r15 => ?_)
  refine Z.if_eq F (tgt := 25) dX9_table_18 (by decide) ?_ ?_
  · exact Z.sub [0, 1, 2] rfl (hj25)
  refine Z.iconst F (v := (0 : Int32)) (by decide) dX9_table_21 ?_
  refine Z.goto F (tgt := 26) dX9_table_22 (by decide) ?_
  exact Z.sub [0, 1, 2] rfl (hj26 (0 : Int32))
set_option maxHeartbeats 4000000 in
theorem k_X9_isValue (l : Launch) (h0 : Nat) (x1 : Int32) (x2 : Int32) : ZCi l yX9_isValue (ws_ yX9_isValue cX9_isValue 3 (some .boolean)) 1 25 0 0 false [zv h0, .int x1, .int x2] (f_X9_isValue h0 x1 x2) := by
  refine Z.metZ (by decide +kernel) (fun h => ⟨rfl, rfl⟩) (L0 := [(0, zv h0), (1, .int x1), (2, .int x2)]) (by first | (rw [zla_v, zla_i, zla_i, zla_0]; done) | (rw [zla_v, zla_i, zla_i, zla_0]; rfl)) (by rw [zsl_v, zsl_i, zsl_i, zsl_0]; exact Nat.le_of_ble_eq_true rfl) ?_
  intro p e R s m args below meth c D A n0 sz k F
  have F : ZF p R s m args meth c cX9_isValue 3 "SafeBucketsModel" "isValue" (some .boolean) D A false sz 0 0 1 25 := F
  unfold f_X9_isValue
  refine Z.iload_n F 2 rfl dX9_isValue_0 ?_
  refine Z.i2l F dX9_isValue_1 ?_
  refine Z.ldc2 F q1829 dX9_isValue_2 ?_
  refine Z.aload_n F 0 rfl dX9_isValue_5 ?_
  refine gfX9_25 F dX9_isValue_6 (fun g6 => ?_)
  refine Z.iload_n F 1 rfl dX9_isValue_9 ?_
  refine Z.iald F dX9_isValue_10 (fun g10 => ?_)
  refine Z.iconst F (v := (1 : Int32)) (by decide) dX9_isValue_11 ?_
  refine Z.isub F dX9_isValue_12 ?_
  refine Z.i2l F dX9_isValue_13 ?_
  refine clX9_77 F ⟨Nat.le_of_ble_eq_true rfl, Nat.le_of_ble_eq_true rfl⟩ (zlw4 (Nat.le_of_ble_eq_true rfl)) dX9_isValue_14 (fun r14 => ?_)
  exact Z.zret F dX9_isValue_17
theorem clX9_232 (F : ZF p R s m args meth c cc nL "SafeBucketsModel" nm ret D A al sz mc ms fr lo) {h0 : Nat} {x1 : Int32} {x2 : Int32} {K : Int32 → ZM → Prop} (hR : 1 + 1 ≤ fr ∧ 8 + (3 + 11) + 25 ≤ lo) (hst4 : zlw st) (hdg : decode cc pc = .ok (.invokevirtual 232, 3)) (k : ∀ r, ZW p l e R s m args below meth c Q nL D A al n0 (K r) (pc + 3) L (.int r :: st)) : ZW p l e R s m args below meth c Q nL D A al n0 (zat 7 h0 (f_X9_isValue h0 x1 x2 K)) pc L (.int x2 :: .int x1 :: zv h0 :: st) :=
  Z.ri0 _ (fun μ H locs cells slots ls hI h hP => Z.V0 F hI (n := 2) (ci := 6) rfl (by decide) hP.1 hP.2 (k_X9_isValue l h0 x1 x2 D A (zX μ, zC μ, zS μ) H.size K μ) q1825 q1827 qs68 q126 q1828 (by decide +kernel) rfl h.1 hst4 hR rfl hdg) k
set_option maxHeartbeats 4000000 in
theorem k_X9_rows (l : Launch) (h0 : Nat) (x1 : Int32) (x2 : Int32) (x3 : Int32) : ZCi l yX9_rows (ws_ yX9_rows cX9_rows 4 (some .int)) 2 47 0 0 false [zv h0, .int x1, .int x2, .int x3] (f_X9_rows h0 x1 x2 x3) := by
  refine Z.metI (by decide +kernel) (fun h => ⟨rfl, rfl⟩) (L0 := [(0, zv h0), (1, .int x1), (2, .int x2), (3, .int x3)]) (by first | (rw [zla_v, zla_i, zla_i, zla_i, zla_0]; done) | (rw [zla_v, zla_i, zla_i, zla_i, zla_0]; rfl)) (by rw [zsl_v, zsl_i, zsl_i, zsl_i, zsl_0]; exact Nat.le_of_ble_eq_true rfl) ?_
  intro p e R s m args below meth c D A n0 sz k F
  have F : ZF p R s m args meth c cX9_rows 4 "SafeBucketsModel" "rows" (some .int) D A false sz 0 0 2 47 := F
  unfold f_X9_rows
  refine Z.aload_n F 0 rfl dX9_rows_0 ?_
  refine Z.iload_n F 1 rfl dX9_rows_1 ?_
  refine clX9_153 F ⟨Nat.le_of_ble_eq_true rfl, Nat.le_of_ble_eq_true rfl⟩ (zlw4 (Nat.le_of_ble_eq_true rfl)) dX9_rows_2 (fun r2 => ?_)
  refine Z.jn1 (J := _) (fun p41s0 => []) (fun p41s0 => [.int p41s0]) 41 (fun p41s0 => ?_) (fun j41 hj41 => ?_)
  · exact Z.iret F dX9_rows_41
  refine Z.jn0 (J := _) ([]) ([]) 40 (?_) (fun j40 hj40 => ?_)
  · refine Z.iconst F (v := (-1 : Int32)) (by decide) dX9_rows_40 ?_
    exact Z.sub [] rfl (hj41 (-1 : Int32))
  refine Z.if_eq F (tgt := 40) dX9_rows_5 (by decide) ?_ ?_
  · exact Z.sub [] rfl (hj40)
  refine Z.aload_n F 0 rfl dX9_rows_8 ?_
  refine Z.iload_n F 1 rfl dX9_rows_9 ?_
  refine Z.iload_n F 2 rfl dX9_rows_10 ?_
  refine clX9_232 F ⟨Nat.le_of_ble_eq_true rfl, Nat.le_of_ble_eq_true rfl⟩ (zlw4 (Nat.le_of_ble_eq_true rfl)) dX9_rows_11 (fun r11 => ?_)
  refine Z.if_eq F (tgt := 40) dX9_rows_14 (by decide) ?_ ?_
  · exact Z.sub [] rfl (hj40)
  refine Z.aload_n F 0 rfl dX9_rows_17 ?_
  refine Z.iload_n F 1 rfl dX9_rows_18 ?_
  refine Z.iload_n F 3 rfl dX9_rows_19 ?_
  refine clX9_232 F ⟨Nat.le_of_ble_eq_true rfl, Nat.le_of_ble_eq_true rfl⟩ (zlw4 (Nat.le_of_ble_eq_true rfl)) dX9_rows_20 (fun r20 => ?_)
  refine Z.if_eq F (tgt := 40) dX9_rows_23 (by decide) ?_ ?_
  · exact Z.sub [] rfl (hj40)
  refine Z.aload_n F 0 rfl dX9_rows_26 ?_
  refine gfX9_34 F dX9_rows_27 (fun g27 => ?_)
  refine Z.iload_n F 1 rfl dX9_rows_30 ?_
  refine Z.iload_n F 2 rfl dX9_rows_31 ?_
  refine Z.iload_n F 3 rfl dX9_rows_32 ?_
  refine clX9_158 F ⟨Nat.le_of_ble_eq_true rfl, Nat.le_of_ble_eq_true rfl⟩ (zlw4 (Nat.le_of_ble_eq_true rfl)) dX9_rows_33 (fun r33 => ?_)
  refine Z.iald F dX9_rows_36 (fun g36 => ?_)
  refine Z.goto F (tgt := 41) dX9_rows_37 (by decide) ?_
  exact Z.sub [] rfl (hj41 g36)
set_option maxHeartbeats 4000000 in
theorem k_X9_isColumn (l : Launch) (h0 : Nat) (x1 : Int32) (x2 : Int32) : ZCi l yX9_isColumn (ws_ yX9_isColumn cX9_isColumn 3 (some .boolean)) 2 46 0 0 false [zv h0, .int x1, .int x2] (f_X9_isColumn h0 x1 x2) := by
  refine Z.metZ (by decide +kernel) (fun h => ⟨rfl, rfl⟩) (L0 := [(0, zv h0), (1, .int x1), (2, .int x2)]) (by first | (rw [zla_v, zla_i, zla_i, zla_0]; done) | (rw [zla_v, zla_i, zla_i, zla_0]; rfl)) (by rw [zsl_v, zsl_i, zsl_i, zsl_0]; exact Nat.le_of_ble_eq_true rfl) ?_
  intro p e R s m args below meth c D A n0 sz k F
  have F : ZF p R s m args meth c cX9_isColumn 3 "SafeBucketsModel" "isColumn" (some .boolean) D A false sz 0 0 2 46 := F
  unfold f_X9_isColumn
  refine Z.aload_n F 0 rfl dX9_isColumn_0 ?_
  refine Z.iload_n F 1 rfl dX9_isColumn_1 ?_
  refine clX9_153 F ⟨Nat.le_of_ble_eq_true rfl, Nat.le_of_ble_eq_true rfl⟩ (zlw4 (Nat.le_of_ble_eq_true rfl)) dX9_isColumn_2 (fun r2 => ?_)
  refine Z.jn1 (J := _) (fun p23s0 => []) (fun p23s0 => [.int p23s0]) 23 (fun p23s0 => ?_) (fun j23 hj23 => ?_)
  · exact Z.zret F dX9_isColumn_23
  refine Z.jn0 (J := _) ([]) ([]) 22 (?_) (fun j22 hj22 => ?_)
  · refine Z.iconst F (v := (0 : Int32)) (by decide) dX9_isColumn_22 ?_
    exact Z.sub [] rfl (hj23 (0 : Int32))
  refine Z.if_eq F (tgt := 22) dX9_isColumn_5 (by decide) ?_ ?_
  · exact Z.sub [] rfl (hj22)
  refine Z.iload_n F 2 rfl dX9_isColumn_8 ?_
  refine Z.i2l F dX9_isColumn_9 ?_
  refine Z.lconst F (w := (0 : Int64)) (by decide) dX9_isColumn_10 ?_
  refine Z.lconst F (w := (1 : Int64)) (by decide) dX9_isColumn_11 ?_
  refine clX9_77 F ⟨Nat.le_of_ble_eq_true rfl, Nat.le_of_ble_eq_true rfl⟩ (zlw4 (Nat.le_of_ble_eq_true rfl)) dX9_isColumn_12 (fun r12 => ?_)
  refine Z.if_eq F (tgt := 22) dX9_isColumn_15 (by decide) ?_ ?_
  · exact Z.sub [] rfl (hj22)
  refine Z.iconst F (v := (1 : Int32)) (by decide) dX9_isColumn_18 ?_
  refine Z.goto F (tgt := 23) dX9_isColumn_19 (by decide) ?_
  exact Z.sub [] rfl (hj23 (1 : Int32))
theorem clX9_235 (F : ZF p R s m args meth c cc nL "SafeBucketsModel" nm ret D A al sz mc ms fr lo) {h0 : Nat} {x1 : Int32} {x2 : Int32} {K : Int32 → ZM → Prop} (hR : 2 + 1 ≤ fr ∧ 8 + (3 + 11) + 46 ≤ lo) (hst4 : zlw st) (hdg : decode cc pc = .ok (.invokevirtual 235, 3)) (k : ∀ r, ZW p l e R s m args below meth c Q nL D A al n0 (K r) (pc + 3) L (.int r :: st)) : ZW p l e R s m args below meth c Q nL D A al n0 (zat 7 h0 (f_X9_isColumn h0 x1 x2 K)) pc L (.int x2 :: .int x1 :: zv h0 :: st) :=
  Z.ri0 _ (fun μ H locs cells slots ls hI h hP => Z.V0 F hI (n := 2) (ci := 6) rfl (by decide) hP.1 hP.2 (k_X9_isColumn l h0 x1 x2 D A (zX μ, zC μ, zS μ) H.size K μ) q1834 q1836 qs69 q126 q1837 (by decide +kernel) rfl h.1 hst4 hR rfl hdg) k
set_option maxHeartbeats 4000000 in
theorem k_X9_countOf (l : Launch) (h0 : Nat) (x1 : Int32) (x2 : Int32) (x3 : Int32) : ZCi l yX9_countOf (ws_ yX9_countOf cX9_countOf 4 (some .int)) 3 68 0 0 false [zv h0, .int x1, .int x2, .int x3] (f_X9_countOf h0 x1 x2 x3) := by
  refine Z.metI (by decide +kernel) (fun h => ⟨rfl, rfl⟩) (L0 := [(0, zv h0), (1, .int x1), (2, .int x2), (3, .int x3)]) (by first | (rw [zla_v, zla_i, zla_i, zla_i, zla_0]; done) | (rw [zla_v, zla_i, zla_i, zla_i, zla_0]; rfl)) (by rw [zsl_v, zsl_i, zsl_i, zsl_i, zsl_0]; exact Nat.le_of_ble_eq_true rfl) ?_
  intro p e R s m args below meth c D A n0 sz k F
  have F : ZF p R s m args meth c cX9_countOf 4 "SafeBucketsModel" "countOf" (some .int) D A false sz 0 0 3 68 := F
  unfold f_X9_countOf
  refine Z.aload_n F 0 rfl dX9_countOf_0 ?_
  refine Z.iload_n F 1 rfl dX9_countOf_1 ?_
  refine Z.iload_n F 2 rfl dX9_countOf_2 ?_
  refine clX9_235 F ⟨Nat.le_of_ble_eq_true rfl, Nat.le_of_ble_eq_true rfl⟩ (zlw4 (Nat.le_of_ble_eq_true rfl)) dX9_countOf_3 (fun r3 => ?_)
  refine Z.jn1 (J := _) (fun p38s0 => []) (fun p38s0 => [.int p38s0]) 38 (fun p38s0 => ?_) (fun j38 hj38 => ?_)
  · exact Z.iret F dX9_countOf_38
  refine Z.jn0 (J := _) ([]) ([]) 37 (?_) (fun j37 hj37 => ?_)
  · refine Z.iconst F (v := (-1 : Int32)) (by decide) dX9_countOf_37 ?_
    exact Z.sub [] rfl (hj38 (-1 : Int32))
  refine Z.if_eq F (tgt := 37) dX9_countOf_6 (by decide) ?_ ?_
  · exact Z.sub [] rfl (hj37)
  refine Z.iload_n F 3 rfl dX9_countOf_9 ?_
  refine Z.i2l F dX9_countOf_10 ?_
  refine Z.lconst F (w := (0 : Int64)) (by decide) dX9_countOf_11 ?_
  refine Z.aload_n F 0 rfl dX9_countOf_12 ?_
  refine gfX9_25 F dX9_countOf_13 (fun g13 => ?_)
  refine Z.iload_n F 1 rfl dX9_countOf_16 ?_
  refine Z.iald F dX9_countOf_17 (fun g17 => ?_)
  refine Z.iconst F (v := (1 : Int32)) (by decide) dX9_countOf_18 ?_
  refine Z.isub F dX9_countOf_19 ?_
  refine Z.i2l F dX9_countOf_20 ?_
  refine clX9_77 F ⟨Nat.le_of_ble_eq_true rfl, Nat.le_of_ble_eq_true rfl⟩ (zlw4 (Nat.le_of_ble_eq_true rfl)) dX9_countOf_21 (fun r21 => ?_)
  refine Z.if_eq F (tgt := 37) dX9_countOf_24 (by decide) ?_ ?_
  · exact Z.sub [] rfl (hj37)
  refine Z.aload_n F 0 rfl dX9_countOf_27 ?_
  refine Z.iload_n F 1 rfl dX9_countOf_28 ?_
  refine Z.iload_n F 2 rfl dX9_countOf_29 ?_
  refine Z.iload_n F 3 rfl dX9_countOf_30 ?_
  refine clX9_167 F ⟨Nat.le_of_ble_eq_true rfl, Nat.le_of_ble_eq_true rfl⟩ (zlw4 (Nat.le_of_ble_eq_true rfl)) dX9_countOf_31 (fun r31 => ?_)
  refine Z.goto F (tgt := 38) dX9_countOf_34 (by decide) ?_
  exact Z.sub [] rfl (hj38 r31)
set_option maxHeartbeats 4000000 in
theorem k_X9_bucketMany (l : Launch) (h0 : Nat) (x1 : Int32) (x2 : Int32) : ZCi l yX9_bucketMany (ws_ yX9_bucketMany cX9_bucketMany 3 (some .int)) 1 21 0 0 false [zv h0, .int x1, .int x2] (f_X9_bucketMany h0 x1 x2) := by
  refine Z.metI (by decide +kernel) (fun h => ⟨rfl, rfl⟩) (L0 := [(0, zv h0), (1, .int x1), (2, .int x2)]) (by first | (rw [zla_v, zla_i, zla_i, zla_0]; done) | (rw [zla_v, zla_i, zla_i, zla_0]; rfl)) (by rw [zsl_v, zsl_i, zsl_i, zsl_0]; exact Nat.le_of_ble_eq_true rfl) ?_
  intro p e R s m args below meth c D A n0 sz k F
  have F : ZF p R s m args meth c cX9_bucketMany 3 "SafeBucketsModel" "bucketMany" (some .int) D A false sz 0 0 1 21 := F
  unfold f_X9_bucketMany
  refine Z.aload_n F 0 rfl dX9_bucketMany_0 ?_
  refine gfX9_34 F dX9_bucketMany_1 (fun g1 => ?_)
  refine Z.iload_n F 1 rfl dX9_bucketMany_4 ?_
  refine Z.iload_n F 2 rfl dX9_bucketMany_5 ?_
  refine clX9_147 F ⟨Nat.le_of_ble_eq_true rfl, Nat.le_of_ble_eq_true rfl⟩ (zlw4 (Nat.le_of_ble_eq_true rfl)) dX9_bucketMany_6 (fun r6 => ?_)
  refine Z.iald F dX9_bucketMany_9 (fun g9 => ?_)
  exact Z.iret F dX9_bucketMany_10
set_option maxHeartbeats 4000000 in
theorem k_X9_of (l : Launch) (h0 : Nat) (x1 : Int32) (x2 : Int32) (x3 : Int32) (x4 : Int32) : ZCi l yX9_of (ws_ yX9_of cX9_of 5 (some .int)) 1 21 0 0 false [zv h0, .int x1, .int x2, .int x3, .int x4] (f_X9_of h0 x1 x2 x3 x4) := by
  refine Z.metI (by decide +kernel) (fun h => ⟨rfl, rfl⟩) (L0 := [(0, zv h0), (1, .int x1), (2, .int x2), (3, .int x3), (4, .int x4)]) (by first | (rw [zla_v, zla_i, zla_i, zla_i, zla_i, zla_0]; done) | (rw [zla_v, zla_i, zla_i, zla_i, zla_i, zla_0]; rfl)) (by rw [zsl_v, zsl_i, zsl_i, zsl_i, zsl_i, zsl_0]; exact Nat.le_of_ble_eq_true rfl) ?_
  intro p e R s m args below meth c D A n0 sz k F
  have F : ZF p R s m args meth c cX9_of 5 "SafeBucketsModel" "of" (some .int) D A false sz 0 0 1 21 := F
  unfold f_X9_of
  refine Z.aload_n F 0 rfl dX9_of_0 ?_
  refine gfX9_34 F dX9_of_1 (fun g1 => ?_)
  refine Z.iload_n F 1 rfl dX9_of_4 ?_
  refine Z.iload_n F 2 rfl dX9_of_5 ?_
  refine clX9_147 F ⟨Nat.le_of_ble_eq_true rfl, Nat.le_of_ble_eq_true rfl⟩ (zlw4 (Nat.le_of_ble_eq_true rfl)) dX9_of_6 (fun r6 => ?_)
  refine Z.iconst F (v := (1 : Int32)) (by decide) dX9_of_9 ?_
  refine Z.iadd F dX9_of_10 ?_
  refine Z.iconst F (v := (4 : Int32)) (by decide) dX9_of_11 ?_
  refine Z.iload_n F 3 rfl dX9_of_12 ?_
  refine Z.imul F dX9_of_13 ?_
  refine Z.iadd F dX9_of_14 ?_
  refine Z.iload F 4 rfl dX9_of_15 ?_
  refine Z.iadd F dX9_of_17 ?_
  refine Z.iald F dX9_of_18 (fun g18 => ?_)
  exact Z.iret F dX9_of_19
theorem clX9_238 (F : ZF p R s m args meth c cc nL "SafeBucketsModel" nm ret D A al sz mc ms fr lo) {h0 : Nat} {x1 : Int32} {x2 : Int32} {K : Int32 → ZM → Prop} (hR : 1 + 1 ≤ fr ∧ 8 + (3 + 11) + 21 ≤ lo) (hst4 : zlw st) (hdg : decode cc pc = .ok (.invokevirtual 238, 3)) (k : ∀ r, ZW p l e R s m args below meth c Q nL D A al n0 (K r) (pc + 3) L (.int r :: st)) : ZW p l e R s m args below meth c Q nL D A al n0 (zat 7 h0 (f_X9_bucketMany h0 x1 x2 K)) pc L (.int x2 :: .int x1 :: zv h0 :: st) :=
  Z.ri0 _ (fun μ H locs cells slots ls hI h hP => Z.V0 F hI (n := 2) (ci := 6) rfl (by decide) hP.1 hP.2 (k_X9_bucketMany l h0 x1 x2 D A (zX μ, zC μ, zS μ) H.size K μ) q1842 q1844 qs70 q126 q1845 (by decide +kernel) rfl h.1 hst4 hR rfl hdg) k
theorem clX9_241 (F : ZF p R s m args meth c cc nL "SafeBucketsModel" nm ret D A al sz mc ms fr lo) {h0 : Nat} {x1 : Int32} {x2 : Int32} {x3 : Int32} {x4 : Int32} {K : Int32 → ZM → Prop} (hR : 1 + 1 ≤ fr ∧ 8 + (5 + 11) + 21 ≤ lo) (hst4 : zlw st) (hdg : decode cc pc = .ok (.invokevirtual 241, 3)) (k : ∀ r, ZW p l e R s m args below meth c Q nL D A al n0 (K r) (pc + 3) L (.int r :: st)) : ZW p l e R s m args below meth c Q nL D A al n0 (zat 7 h0 (f_X9_of h0 x1 x2 x3 x4 K)) pc L (.int x4 :: .int x3 :: .int x2 :: .int x1 :: zv h0 :: st) :=
  Z.ri0 _ (fun μ H locs cells slots ls hI h hP => Z.V0 F hI (n := 4) (ci := 6) rfl (by decide) hP.1 hP.2 (k_X9_of l h0 x1 x2 x3 x4 D A (zX μ, zC μ, zS μ) H.size K μ) q1846 q1848 qs71 q126 q1849 (by decide +kernel) rfl h.1 hst4 hR rfl hdg) k
set_option maxHeartbeats 4000000 in
theorem k_X9_bucket (l : Launch) (h0 : Nat) (x1 : Int32) (x2 : Int32) (x3 : Int32) (x4 : Int32) : ZCi l yX9_bucket (ws_ yX9_bucket cX9_bucket 5 (some .int)) 3 68 0 0 false [zv h0, .int x1, .int x2, .int x3, .int x4] (f_X9_bucket h0 x1 x2 x3 x4) := by
  refine Z.metI (by decide +kernel) (fun h => ⟨rfl, rfl⟩) (L0 := [(0, zv h0), (1, .int x1), (2, .int x2), (3, .int x3), (4, .int x4)]) (by first | (rw [zla_v, zla_i, zla_i, zla_i, zla_i, zla_0]; done) | (rw [zla_v, zla_i, zla_i, zla_i, zla_i, zla_0]; rfl)) (by rw [zsl_v, zsl_i, zsl_i, zsl_i, zsl_i, zsl_0]; exact Nat.le_of_ble_eq_true rfl) ?_
  intro p e R s m args below meth c D A n0 sz k F
  have F : ZF p R s m args meth c cX9_bucket 5 "SafeBucketsModel" "bucket" (some .int) D A false sz 0 0 3 68 := F
  unfold f_X9_bucket
  refine Z.aload_n F 0 rfl dX9_bucket_0 ?_
  refine Z.iload_n F 1 rfl dX9_bucket_1 ?_
  refine Z.iload_n F 2 rfl dX9_bucket_2 ?_
  refine clX9_235 F ⟨Nat.le_of_ble_eq_true rfl, Nat.le_of_ble_eq_true rfl⟩ (zlw4 (Nat.le_of_ble_eq_true rfl)) dX9_bucket_3 (fun r3 => ?_)
  refine Z.jn1 (J := _) (fun p54s0 => []) (fun p54s0 => [.int p54s0]) 54 (fun p54s0 => ?_) (fun j54 hj54 => ?_)
  · exact Z.iret F dX9_bucket_54
  refine Z.jn0 (J := _) ([]) ([]) 52 (?_) (fun j52 hj52 => ?_)
  · refine Z.ldcI F q1850 dX9_bucket_52 ?_
    exact Z.sub [] rfl (hj54 (-1000000 : Int32))
  refine Z.if_eq F (tgt := 52) dX9_bucket_6 (by decide) ?_ ?_
  · exact Z.sub [] rfl (hj52)
  refine Z.iload_n F 3 rfl dX9_bucket_9 ?_
  refine Z.i2l F dX9_bucket_10 ?_
  refine Z.lconst F (w := (0 : Int64)) (by decide) dX9_bucket_11 ?_
  refine Z.aload_n F 0 rfl dX9_bucket_12 ?_
  refine Z.iload_n F 1 rfl dX9_bucket_13 ?_
  refine Z.iload_n F 2 rfl dX9_bucket_14 ?_
  refine clX9_238 F ⟨Nat.le_of_ble_eq_true rfl, Nat.le_of_ble_eq_true rfl⟩ (zlw4 (Nat.le_of_ble_eq_true rfl)) dX9_bucket_15 (fun r15 => ?_)
  refine Z.iconst F (v := (1 : Int32)) (by decide) dX9_bucket_18 ?_
  refine Z.isub F dX9_bucket_19 ?_
  refine Z.i2l F dX9_bucket_20 ?_
  refine clX9_77 F ⟨Nat.le_of_ble_eq_true rfl, Nat.le_of_ble_eq_true rfl⟩ (zlw4 (Nat.le_of_ble_eq_true rfl)) dX9_bucket_21 (fun r21 => ?_)
  refine Z.if_eq F (tgt := 52) dX9_bucket_24 (by decide) ?_ ?_
  · exact Z.sub [] rfl (hj52)
  refine Z.iload F 4 rfl dX9_bucket_27 ?_
  refine Z.i2l F dX9_bucket_29 ?_
  refine Z.lconst F (w := (0 : Int64)) (by decide) dX9_bucket_30 ?_
  refine Z.ldc2 F q1816 dX9_bucket_31 ?_
  refine clX9_77 F ⟨Nat.le_of_ble_eq_true rfl, Nat.le_of_ble_eq_true rfl⟩ (zlw4 (Nat.le_of_ble_eq_true rfl)) dX9_bucket_34 (fun r34 => ?_)
  refine Z.if_eq F (tgt := 52) dX9_bucket_37 (by decide) ?_ ?_
  · exact Z.sub [] rfl (hj52)
  refine Z.aload_n F 0 rfl dX9_bucket_40 ?_
  refine Z.iload_n F 1 rfl dX9_bucket_41 ?_
  refine Z.iload_n F 2 rfl dX9_bucket_42 ?_
  refine Z.iload_n F 3 rfl dX9_bucket_43 ?_
  refine Z.iload F 4 rfl dX9_bucket_44 ?_
  refine clX9_241 F ⟨Nat.le_of_ble_eq_true rfl, Nat.le_of_ble_eq_true rfl⟩ (zlw4 (Nat.le_of_ble_eq_true rfl)) dX9_bucket_46 (fun r46 => ?_)
  refine Z.goto F (tgt := 54) dX9_bucket_49 (by decide) ?_
  exact Z.sub [] rfl (hj54 r46)
set_option maxHeartbeats 4000000 in
theorem k_X9_worst (l : Launch) (h0 : Nat) (x1 : Int32) (x2 : Int32) : ZCi l yX9_worst (ws_ yX9_worst cX9_worst 5 (some .int)) 3 71 0 0 false [zv h0, .int x1, .int x2] (f_X9_worst h0 x1 x2) := by
  refine Z.metI (by decide +kernel) (fun h => ⟨rfl, rfl⟩) (L0 := [(0, zv h0), (1, .int x1), (2, .int x2)]) (by first | (rw [zla_v, zla_i, zla_i, zla_0]; done) | (rw [zla_v, zla_i, zla_i, zla_0]; rfl)) (by rw [zsl_v, zsl_i, zsl_i, zsl_0]; exact Nat.le_of_ble_eq_true rfl) ?_
  intro p e R s m args below meth c D A n0 sz k F
  have F : ZF p R s m args meth c cX9_worst 5 "SafeBucketsModel" "worst" (some .int) D A false sz 0 0 3 71 := F
  unfold f_X9_worst
  refine Z.aload_n F 0 rfl dX9_worst_0 ?_
  refine Z.iload_n F 1 rfl dX9_worst_1 ?_
  refine Z.iload_n F 2 rfl dX9_worst_2 ?_
  refine clX9_191 F ⟨Nat.le_of_ble_eq_true rfl, Nat.le_of_ble_eq_true rfl⟩ (zlw4 (Nat.le_of_ble_eq_true rfl)) dX9_worst_3 ?_
  refine Z.iconst F (v := (0 : Int32)) (by decide) dX9_worst_6 ?_
  refine Z.istore_n F (L0 := [(0, zv h0), (1, .int x1), (2, .int x2)]) [0, 1, 2] rfl (zkR rfl (zkI rfl (zkI rfl zkN))) (by decide) dX9_worst_7 ?_
  refine Z.iconst F (v := (1 : Int32)) (by decide) dX9_worst_8 ?_
  refine Z.istore F (L0 := [(3, .int (0 : Int32)), (0, zv h0), (1, .int x1), (2, .int x2)]) [0, 1, 2, 3] rfl (zkI rfl (zkR rfl (zkI rfl (zkI rfl zkN)))) (by decide) dX9_worst_9 ?_
  refine Z.sub [2, 3, 4, 1, 0] rfl ?_
  refine Z.w2 (Lf := fun p11l3 p11l4 => [(0, zv h0), (1, .int x1), (2, .int x2), (3, .int p11l3), (4, .int p11l4)]) (sf := fun p11l3 p11l4 => []) (fun r11 hr11 p11l3 p11l4 => ?_) (0 : Int32) (1 : Int32)
  refine Z.iload F 4 rfl dX9_worst_11 ?_
  refine Z.aload_n F 0 rfl dX9_worst_13 ?_
  refine Z.iload_n F 1 rfl dX9_worst_14 ?_
  refine Z.iload_n F 2 rfl dX9_worst_15 ?_
  refine clX9_238 F ⟨Nat.le_of_ble_eq_true rfl, Nat.le_of_ble_eq_true rfl⟩ (zlw4 (Nat.le_of_ble_eq_true rfl)) dX9_worst_16 (fun r16 => ?_)
  refine Z.icmp_ge F (tgt := 85) dX9_worst_19 (by decide) ?_ ?_
  · refine Z.iload_n F 3 rfl dX9_worst_85 ?_
    exact Z.iret F dX9_worst_86
  refine Z.aload_n F 0 rfl dX9_worst_22 ?_
  refine Z.aload_n F 0 rfl dX9_worst_23 ?_
  refine Z.iload_n F 1 rfl dX9_worst_24 ?_
  refine Z.iload_n F 2 rfl dX9_worst_25 ?_
  refine Z.iload F 4 rfl dX9_worst_26 ?_
  refine Z.iconst F (v := (0 : Int32)) (by decide) dX9_worst_28 ?_
  refine clX9_241 F ⟨Nat.le_of_ble_eq_true rfl, Nat.le_of_ble_eq_true rfl⟩ (zlw4 (Nat.le_of_ble_eq_true rfl)) dX9_worst_29 (fun r29 => ?_)
  refine Z.aload_n F 0 rfl dX9_worst_32 ?_
  refine Z.iload_n F 1 rfl dX9_worst_33 ?_
  refine Z.iload_n F 2 rfl dX9_worst_34 ?_
  refine Z.iload F 4 rfl dX9_worst_35 ?_
  refine Z.iconst F (v := (1 : Int32)) (by decide) dX9_worst_37 ?_
  refine clX9_241 F ⟨Nat.le_of_ble_eq_true rfl, Nat.le_of_ble_eq_true rfl⟩ (zlw4 (Nat.le_of_ble_eq_true rfl)) dX9_worst_38 (fun r38 => ?_)
  refine Z.iconst F (v := (1 : Int32)) (by decide) dX9_worst_41 ?_
  refine Z.iadd F dX9_worst_42 ?_
  refine clX9_177 F ⟨Nat.le_of_ble_eq_true rfl, Nat.le_of_ble_eq_true rfl⟩ (zlw4 (Nat.le_of_ble_eq_true rfl)) dX9_worst_43 (fun r43 => ?_)
  refine Z.aload_n F 0 rfl dX9_worst_46 ?_
  refine Z.aload_n F 0 rfl dX9_worst_47 ?_
  refine Z.iload_n F 1 rfl dX9_worst_48 ?_
  refine Z.iload_n F 2 rfl dX9_worst_49 ?_
  refine Z.iload_n F 3 rfl dX9_worst_50 ?_
  refine Z.iconst F (v := (0 : Int32)) (by decide) dX9_worst_51 ?_
  refine clX9_241 F ⟨Nat.le_of_ble_eq_true rfl, Nat.le_of_ble_eq_true rfl⟩ (zlw4 (Nat.le_of_ble_eq_true rfl)) dX9_worst_52 (fun r52 => ?_)
  refine Z.aload_n F 0 rfl dX9_worst_55 ?_
  refine Z.iload_n F 1 rfl dX9_worst_56 ?_
  refine Z.iload_n F 2 rfl dX9_worst_57 ?_
  refine Z.iload_n F 3 rfl dX9_worst_58 ?_
  refine Z.iconst F (v := (1 : Int32)) (by decide) dX9_worst_59 ?_
  refine clX9_241 F ⟨Nat.le_of_ble_eq_true rfl, Nat.le_of_ble_eq_true rfl⟩ (zlw4 (Nat.le_of_ble_eq_true rfl)) dX9_worst_60 (fun r60 => ?_)
  refine Z.iconst F (v := (1 : Int32)) (by decide) dX9_worst_63 ?_
  refine Z.iadd F dX9_worst_64 ?_
  refine clX9_177 F ⟨Nat.le_of_ble_eq_true rfl, Nat.le_of_ble_eq_true rfl⟩ (zlw4 (Nat.le_of_ble_eq_true rfl)) dX9_worst_65 (fun r65 => ?_)
  refine Z.lcmp F dX9_worst_68 ?_
  refine Z.jn1 (J := _) (fun p78s0 => [(0, zv h0), (1, .int x1), (2, .int x2), (4, .int p11l4)]) (fun p78s0 => [.int p78s0]) 78 (fun p78s0 => ?_) (fun j78 hj78 => ?_)
  · refine Z.istore_n F (L0 := [(0, zv h0), (1, .int x1), (2, .int x2), (4, .int p11l4)]) [0, 1, 2, 3] rfl (zkR rfl (zkI rfl (zkI rfl (zkI rfl zkN)))) (by decide) dX9_worst_78 ?_
    refine Z.iinc F (L0 := [(3, .int p78s0), (0, zv h0), (1, .int x1), (2, .int x2)]) (k0 := 4) (v := (1 : Int32)) rfl (by decide) [0, 1, 2, 3] rfl (zkI rfl (zkR rfl (zkI rfl (zkI rfl zkN)))) (by decide) dX9_worst_79 ?_
    refine Z.goto F (tgt := 11) dX9_worst_82 (by decide) ?_
    exact Z.sub [2, 3, 4, 1, 0] rfl (hr11 p78s0 (p11l4 + (1 : Int32)))
  refine Z.if_le F (tgt := 77) dX9_worst_69 (by decide) ?_ ?_
  · refine Z.iload_n F 3 rfl dX9_worst_77 ?_
    exact Z.sub [0, 1, 2, 4] rfl (hj78 p11l3)
  refine Z.iload F 4 rfl dX9_worst_72 ?_
  refine Z.goto F (tgt := 78) dX9_worst_74 (by decide) ?_
  exact Z.sub [0, 1, 2, 4] rfl (hj78 p11l4)
end ZWalk
