section ZDiv
variable {p : Program} {l : Launch} {e : Env} {R : Room} {s : State} {m : MethodId} {args : Array Value} {below : List Frame} {meth : Method} {c : Code} {Q : State → Prop} {nL : Nat} {D : ZD} {A : Nat → Prop} {n0 : Nat × Nat × Nat} {cc : ByteArray} {nm : String} {ret : Option FieldType} {sz mc ms fr lo : Nat}
variable {pc : Nat} {L : List (Nat × Value)} {st : List Value}
/-- a call of divisor, of that depth -/
theorem k_divCall (d : Nat) (hk : ∀ x0 x2 : Int64, ZCl l yX1_divisor (ws_ yX1_divisor cX1_divisor 4 (some .long)) d (23 * d) 0 0 false [.long x0, .long x2] (f_X1_divisor_d d x0 x2)) {al : Bool} (F : ZF p R s m args meth c cc nL "SafeBuckets" nm ret D A al sz mc ms fr lo) {x0 : Int64} {x2 : Int64} {K : Int64 → ZM → Prop} (hR : d + 1 ≤ fr ∧ 8 + (4 + 11) + 23 * d ≤ lo) (hst4 : zlw st) (hdg : decode cc pc = .ok (.invokestatic 450, 3)) (k : ∀ r, ZW p l e R s m args below meth c Q nL D A al n0 (K r) (pc + 3) L (.long r :: st)) : ZW p l e R s m args below meth c Q nL D A al n0 (f_X1_divisor_d d x0 x2 K) pc L (.long x2 :: .long x0 :: st) :=
  Z.rl0 _ (fun μ H locs cells slots ls hI h hP => Z.S0 F hI (n := 2) hP (hk x0 x2 D A (zX μ, zC μ, zS μ) H.size K μ) q1483 q1484 q116 q1485 (by decide +kernel) rfl h.1 hst4 hR rfl hdg) k
theorem k_X1_divisor_d (l : Launch) : ∀ (d : Nat) (x0 x2 : Int64), ZCl l yX1_divisor (ws_ yX1_divisor cX1_divisor 4 (some .long)) d (23 * d) 0 0 false [.long x0, .long x2] (f_X1_divisor_d d x0 x2) := by
  intro d
  induction d with
  | zero =>
    intro x0 x2
    refine Z.metL (by decide +kernel) (fun h => ⟨rfl, rfl⟩) (L0 := [(0, .long x0), (2, .long x2)]) (by rw [zla_l, zla_l, zla_0]) (by rw [zsl_l, zsl_l, zsl_0]; exact Nat.le_of_ble_eq_true rfl) ?_
    intro p e R s m args below meth c D A n0 sz k F
    have F : ZF p R s m args meth c cX1_divisor 4 "SafeBuckets" "divisor" (some .long) D A false sz 0 0 0 0 := F
    unfold f_X1_divisor_d
    refine Z.lload_n F 1 rfl dX1_divisor_0 ?_
    refine Z.lconst F (w := (0 : Int64)) (by decide) dX1_divisor_1 ?_
    refine Z.lcmp F dX1_divisor_2 ?_
    refine Z.if_ne F (tgt := 10) dX1_divisor_3 (by decide) ?_ ?_
    · exact Z.no
    refine Z.lload_n F 0 rfl dX1_divisor_6 ?_
    refine Z.goto F (tgt := 17) dX1_divisor_7 (by decide) ?_
    exact Z.lret F dX1_divisor_17
  | succ d ih =>
    intro x0 x2
    refine Z.metL (by decide +kernel) (fun h => ⟨rfl, rfl⟩) (L0 := [(0, .long x0), (2, .long x2)]) (by rw [zla_l, zla_l, zla_0]) (by rw [zsl_l, zsl_l, zsl_0]; exact Nat.le_of_ble_eq_true rfl) ?_
    intro p e R s m args below meth c D A n0 sz k F
    have F : ZF p R s m args meth c cX1_divisor 4 "SafeBuckets" "divisor" (some .long) D A false sz 0 0 (d + 1) (23 * (d + 1)) := F
    unfold f_X1_divisor_d
    refine Z.lload_n F 1 rfl dX1_divisor_0 ?_
    refine Z.lconst F (w := (0 : Int64)) (by decide) dX1_divisor_1 ?_
    refine Z.lcmp F dX1_divisor_2 ?_
    refine Z.if_ne F (tgt := 10) dX1_divisor_3 (by decide) ?_ ?_
    · refine Z.lload_n F 1 rfl dX1_divisor_10 ?_
      refine Z.lload_n F 0 rfl dX1_divisor_11 ?_
      refine Z.lload_n F 1 rfl dX1_divisor_12 ?_
      refine Z.lrem F dX1_divisor_13 ?_
      refine k_divCall d ih F ⟨Nat.le_refl _, by omega⟩ (zlw4 (Nat.le_of_ble_eq_true rfl)) dX1_divisor_14 (fun r14 => ?_)
      exact Z.lret F dX1_divisor_17
    refine Z.lload_n F 0 rfl dX1_divisor_6 ?_
    refine Z.goto F (tgt := 17) dX1_divisor_7 (by decide) ?_
    exact Z.lret F dX1_divisor_17
theorem k_X1_divisor (l : Launch) (x0 x2 : Int64) : ZCl l yX1_divisor (ws_ yX1_divisor cX1_divisor 4 (some .long)) 100 2300 0 0 false [.long x0, .long x2] (f_X1_divisor x0 x2) := k_X1_divisor_d l 100 x0 x2
end ZDiv
