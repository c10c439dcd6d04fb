set_option maxRecDepth 100000
/-! THE CLASSES by number -/
def cg_T0 : u_T := fun _ => ("", "", "", false)
def cg_ty0 : Nat → FieldType := fun _ => .int
theorem cg_in0 {C : String} : ∀ w ∈ u_ws C cg_T0 0, w ∈ lw_all := fun _ h => absurd h List.not_mem_nil
/-- a reader while it is made: its own this$0 stands at 7, the elder one is not told -/
def cg_T36 : u_T := fun k => if k = 7 then TX10 10 else TX10 k
def cg_ty36 : Nat → FieldType := fun k => if k = 7 then tyX10 10 else tyX10 k
theorem cg_in36 : ∀ w ∈ u_ws RX10 cg_T36 10, w ∈ lw_all := lw_in (u_ws RX10 cg_T36 10) [1093, 1095, 1097, 1099, 1101, 1103, 1105, 1091, 1087, 1089] (by decide +kernel) (by decide +kernel)
def cg_T37 : u_T := fun k => if k = 7 then TX23 9 else TX23 k
def cg_ty37 : Nat → FieldType := fun k => if k = 7 then tyX23 9 else tyX23 k
theorem cg_in37 : ∀ w ∈ u_ws RX23 cg_T37 9, w ∈ lw_all := lw_in (u_ws RX23 cg_T37 9) [2076, 2077, 2078, 2079, 2080, 2081, 2082, 2074, 2072] (by decide +kernel) (by decide +kernel)
def cg : List vw_C := [(RX0, TX0, 28), (RX1, TX1, 7), (RX2, TX2, 3), (RX3, TX3, 9), (RX4, TX4, 2), (RX5, TX5, 2), (RX6, TX6, 1), (RX7, TX7, 64), (RX25, cg_T0, 0), (RX25, cg_T0, 0), (RX10, TX10, 11), (RX11, TX11, 7), (RX25, cg_T0, 0), (RX13, TX13, 1), (RX14, TX14, 1), (RX15, TX15, 3), (RX16, TX16, 3), (RX17, TX17, 4), (RX25, cg_T0, 0), (RX19, TX19, 3), (RX20, TX20, 1), (RX21, TX21, 2), (RX22, TX22, 8), (RX23, TX23, 10), (RX24, TX24, 7), (RX25, cg_T0, 0), (RX26, cg_T0, 0), (RX27, cg_T0, 0), (RX28, cg_T0, 0), (RX29, cg_T0, 0), (RX30, TX30, 1), (RJ2, TJ2, 3), (RJ7, TJ7, 5), (RJ11, TJ11, 6), (RJ12, TJ12, 4), (RJ14, TJ14, 4), (RX10, cg_T36, 10), (RX23, cg_T37, 9)]
def cgt : List (Nat → FieldType) := [tyX0, tyX1, tyX2, tyX3, tyX4, tyX5, tyX6, tyX7, cg_ty0, cg_ty0, tyX10, tyX11, cg_ty0, tyX13, tyX14, tyX15, tyX16, tyX17, cg_ty0, tyX19, tyX20, tyX21, tyX22, tyX23, tyX24, cg_ty0, cg_ty0, cg_ty0, cg_ty0, cg_ty0, tyX30, tyJ2, tyJ7, tyJ11, tyJ12, tyJ14, cg_ty36, cg_ty37]
def cgty (c : Nat) : Nat → FieldType := (cgt[c]?).getD cg_ty0
theorem cg_in : ∀ (c : Nat) (q : vw_C), cg[c]? = some q → ∀ w ∈ u_ws q.1 q.2.1 q.2.2, w ∈ lw_all := by
  intro c q h
  match c, h with
  | 0, h => cases h; exact in_X0
  | 1, h => cases h; exact in_X1
  | 2, h => cases h; exact in_X2
  | 3, h => cases h; exact in_X3
  | 4, h => cases h; exact in_X4
  | 5, h => cases h; exact in_X5
  | 6, h => cases h; exact in_X6
  | 7, h => cases h; exact in_X7
  | 8, h => cases h; exact cg_in0
  | 9, h => cases h; exact cg_in0
  | 10, h => cases h; exact in_X10
  | 11, h => cases h; exact in_X11
  | 12, h => cases h; exact cg_in0
  | 13, h => cases h; exact in_X13
  | 14, h => cases h; exact in_X14
  | 15, h => cases h; exact in_X15
  | 16, h => cases h; exact in_X16
  | 17, h => cases h; exact in_X17
  | 18, h => cases h; exact cg_in0
  | 19, h => cases h; exact in_X19
  | 20, h => cases h; exact in_X20
  | 21, h => cases h; exact in_X21
  | 22, h => cases h; exact in_X22
  | 23, h => cases h; exact in_X23
  | 24, h => cases h; exact in_X24
  | 25, h => cases h; exact cg_in0
  | 26, h => cases h; exact cg_in0
  | 27, h => cases h; exact cg_in0
  | 28, h => cases h; exact cg_in0
  | 29, h => cases h; exact cg_in0
  | 30, h => cases h; exact in_X30
  | 31, h => cases h; exact in_J2
  | 32, h => cases h; exact in_J7
  | 33, h => cases h; exact in_J11
  | 34, h => cases h; exact in_J12
  | 35, h => cases h; exact in_J14
  | 36, h => cases h; exact cg_in36
  | 37, h => cases h; exact cg_in37
  | c + 38, h => exact absurd h (by simp [cg])
theorem cg_tyok : ∀ (c : Nat) (q : vw_C), cg[c]? = some q → ∀ k, k < q.2.2 → parseFieldDescriptor (q.2.1 k).2.2.1 = some (cgty c k) := by
  intro c q h
  match c, h with
  | 0, h => cases h; exact tyX0_ok
  | 1, h => cases h; exact tyX1_ok
  | 2, h => cases h; exact tyX2_ok
  | 3, h => cases h; exact tyX3_ok
  | 4, h => cases h; exact tyX4_ok
  | 5, h => cases h; exact tyX5_ok
  | 6, h => cases h; exact tyX6_ok
  | 7, h => cases h; exact tyX7_ok
  | 8, h => cases h; exact fun k h => absurd h (Nat.not_lt_zero k)
  | 9, h => cases h; exact fun k h => absurd h (Nat.not_lt_zero k)
  | 10, h => cases h; exact tyX10_ok
  | 11, h => cases h; exact tyX11_ok
  | 12, h => cases h; exact fun k h => absurd h (Nat.not_lt_zero k)
  | 13, h => cases h; exact tyX13_ok
  | 14, h => cases h; exact tyX14_ok
  | 15, h => cases h; exact tyX15_ok
  | 16, h => cases h; exact tyX16_ok
  | 17, h => cases h; exact tyX17_ok
  | 18, h => cases h; exact fun k h => absurd h (Nat.not_lt_zero k)
  | 19, h => cases h; exact tyX19_ok
  | 20, h => cases h; exact tyX20_ok
  | 21, h => cases h; exact tyX21_ok
  | 22, h => cases h; exact tyX22_ok
  | 23, h => cases h; exact tyX23_ok
  | 24, h => cases h; exact tyX24_ok
  | 25, h => cases h; exact fun k h => absurd h (Nat.not_lt_zero k)
  | 26, h => cases h; exact fun k h => absurd h (Nat.not_lt_zero k)
  | 27, h => cases h; exact fun k h => absurd h (Nat.not_lt_zero k)
  | 28, h => cases h; exact fun k h => absurd h (Nat.not_lt_zero k)
  | 29, h => cases h; exact fun k h => absurd h (Nat.not_lt_zero k)
  | 30, h => cases h; exact tyX30_ok
  | 31, h => cases h; exact tyJ2_ok
  | 32, h => cases h; exact tyJ7_ok
  | 33, h => cases h; exact tyJ11_ok
  | 34, h => cases h; exact tyJ12_ok
  | 35, h => cases h; exact tyJ14_ok
  | 36, h => cases h; show ∀ k, k < 10 → parseFieldDescriptor (cg_T36 k).2.2.1 = some (cg_ty36 k); decide +kernel
  | 37, h => cases h; show ∀ k, k < 9 → parseFieldDescriptor (cg_T37 k).2.2.1 = some (cg_ty37 k); decide +kernel
  | c + 38, h => exact absurd h (by simp [cg])
