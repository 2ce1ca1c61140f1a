def f_X0_table (h0 : Nat) (x1 : Int32) (x2 : Int32) (h3 : Nat) (k : Int32 → ZM → Prop) : ZM → Prop :=
  zat 1 h0 <| zclx' 1 6 (fun k9 kx9 => f_X1_table h0 x1 x2 kx9 k9) (fun (e5 : Nat) =>
        k (1 : Int32)) fun r5 =>
  zbL 51 h3 (0 : Int32) r5.toInt64 <|
  k (0 : Int32)
