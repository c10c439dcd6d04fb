set_option maxRecDepth 100000
abbrev mX0_row : MP := (cX0_row, "MissCurves", 8, (Option.some FieldType.int), 201, "row", [(58, 95, 130, 236), (58, 95, 170, 0), (130, 135, 170, 0), (170, 172, 170, 0)])
theorem ykX0_row : YKH yX0_row mX0_row 0 := ⟨q655, q128, ⟨by decide, by decide⟩, by decide +kernel, Nat.le_of_ble_eq_true rfl, by decide, rfl, rfl⟩
theorem pk_e_414 {nm9 : String} : POK "MissCurves" nm9 226 [0] 12 .int := POK.one (by decide) rfl (Nat.le_of_ble_eq_true rfl) (Or.inl ⟨_, q393, Or.inl rfl⟩) rfl (by decide +kernel) (Or.inl rfl)
def X0_row_c123 (k49 : Int32 → Int32 → Hp → Option (Int32 × Hp)) (k213 : Int32 → Hp → Option (Int32 × Hp)) (l0 : Option Nat) (l1 : Option Nat) (l2 : Int32) (l3 : Int32) (s0 : Option Nat) (s1 : Int32) (s2 : Int32) (σ : Hp) : Option (Int32 × Hp) :=
  (pI σ s0 [0] 12 (s1 + s2)).bind fun σ1 =>
  k49 l2 (l3 + (2 : Int32)) σ1
set_option maxHeartbeats 4000000 in
theorem jX0_row_c123 {γ : GP} {σ0 : Hp} {q : (Int32 × Hp)} (hγ : GOK γ) (l0 : Option Nat) (l1 : Option Nat) (l2 : Int32) (l3 : Int32) {k49 : Int32 → Int32 → Hp → Option (Int32 × Hp)} {k213 : Int32 → Hp → Option (Int32 × Hp)} (hk49 : ∀ (l2 : Int32) (l3 : Int32) (σ : Hp), k49 l2 l3 σ = some q → J γ mX0_row (σ0, .inr (some (.int q.1)), q.2) σ 49 [(0, 1, va_rf l0), (1, 1, va_rf l1), (2, 1, .int l2), (3, 1, .int l3)] []) (hk213 : ∀ (l2 : Int32) (σ : Hp), k213 l2 σ = some q → J γ mX0_row (σ0, .inr (some (.int q.1)), q.2) σ 213 [(0, 1, va_rf l0), (2, 1, .int l2)] []) (s0 : Option Nat) (s1 : Int32) (s2 : Int32) (σ : Hp) (h : X0_row_c123 k49 k213 l0 l1 l2 l3 s0 s1 s2 σ = some q) : J γ mX0_row (σ0, .inr (some (.int q.1)), q.2) σ 123 [(0, 1, va_rf l0), (1, 1, va_rf l1), (2, 1, .int l2), (3, 1, .int l3)] [.int s2, .int s1, va_rf s0] := by
  unfold X0_row_c123 at h
  refine J_iadd 124 dX0_row_123 rfl ?_
  obtain ⟨σ1, hσ1, h⟩ := some_of_bind h
  refine J_pI 127 dX0_row_124 rfl pk_e_414 hσ1 ?_
  refine J_goto 207 dX0_row_127 (by decide) ?_
  refine J_iinc (i := 3) (v := l3 + (2 : Int32)) 3 210 [(3, 1, .int (l3 + (2 : Int32))), (0, 1, va_rf l0), (1, 1, va_rf l1), (2, 1, .int l2)] dX0_row_207 rfl rfl (Nat.le_of_ble_eq_true rfl) (by rw [kic_2]) rfl ?_
  refine J_goto 49 dX0_row_210 (by decide) ?_
  refine J.pick [1, 2, 3, 0] rfl ?_
  exact hk49 l2 (l3 + (2 : Int32)) σ1 h
def X0_row_c106 (k49 : Int32 → Int32 → Hp → Option (Int32 × Hp)) (k213 : Int32 → Hp → Option (Int32 × Hp)) (l0 : Option Nat) (l1 : Option Nat) (l3 : Int32) (l4 : Int32) (s0 : Int32) (s1 : Int32) (σ : Hp) : Option (Int32 × Hp) :=
  (gI σ l0 [0] 12).bind fun v1 =>
  if l4 = 0 then
    X0_row_c123 k49 k213 l0 l1 (s0 + s1) l3 l0 v1 (1 : Int32) σ
  else
    X0_row_c123 k49 k213 l0 l1 (s0 + s1) l3 l0 v1 (0 : Int32) σ
set_option maxHeartbeats 4000000 in
theorem jX0_row_c106 {γ : GP} {σ0 : Hp} {q : (Int32 × Hp)} (hγ : GOK γ) (l0 : Option Nat) (l1 : Option Nat) (l3 : Int32) (l4 : Int32) {k49 : Int32 → Int32 → Hp → Option (Int32 × Hp)} {k213 : Int32 → Hp → Option (Int32 × Hp)} (hk49 : ∀ (l2 : Int32) (l3 : Int32) (σ : Hp), k49 l2 l3 σ = some q → J γ mX0_row (σ0, .inr (some (.int q.1)), q.2) σ 49 [(0, 1, va_rf l0), (1, 1, va_rf l1), (2, 1, .int l2), (3, 1, .int l3)] []) (hk213 : ∀ (l2 : Int32) (σ : Hp), k213 l2 σ = some q → J γ mX0_row (σ0, .inr (some (.int q.1)), q.2) σ 213 [(0, 1, va_rf l0), (2, 1, .int l2)] []) (s0 : Int32) (s1 : Int32) (σ : Hp) (h : X0_row_c106 k49 k213 l0 l1 l3 l4 s0 s1 σ = some q) : J γ mX0_row (σ0, .inr (some (.int q.1)), q.2) σ 106 [(0, 1, va_rf l0), (1, 1, va_rf l1), (3, 1, .int l3), (4, 1, .int l4)] [.int s1, .int s0] := by
  unfold X0_row_c106 at h
  refine J_iadd 107 dX0_row_106 rfl ?_
  refine J_istore_n (i := 2) 108 [(2, 1, .int (s0 + s1)), (0, 1, va_rf l0), (1, 1, va_rf l1), (3, 1, .int l3), (4, 1, .int l4)] dX0_row_107 rfl rfl (Nat.le_of_ble_eq_true rfl) rfl ?_
  refine J_aload_n (i := 0) 1 109 dX0_row_108 rfl rfl rfl ?_
  refine J_dupr 110 dX0_row_109 rfl ?_
  obtain ⟨v1, hv1, h⟩ := some_of_bind h
  refine J_gI 113 dX0_row_110 rfl fk_z_264 hv1 ?_
  refine J_iload (i := 4) 4 115 dX0_row_113 rfl rfl ?_
  refine J_if_eq 122 118 dX0_row_115 (by decide) rfl (fun c2 => ?_) (fun c2 => ?_)
  · rw [if_pos c2] at h
    refine J_ic 123 dX0_row_122 rfl (1 : Int32) kic_1 ?_
    refine J.pick [1, 2, 0, 3] rfl ?_
    exact jX0_row_c123 hγ l0 l1 (s0 + s1) l3 hk49 hk213 l0 v1 (1 : Int32) σ h
  · rw [if_neg c2] at h
    refine J_ic 119 dX0_row_118 rfl (0 : Int32) kic_0 ?_
    refine J_goto 123 dX0_row_119 (by decide) ?_
    refine J.pick [1, 2, 0, 3] rfl ?_
    exact jX0_row_c123 hγ l0 l1 (s0 + s1) l3 hk49 hk213 l0 v1 (0 : Int32) σ h
def X0_row_c95 (k49 : Int32 → Int32 → Hp → Option (Int32 × Hp)) (k213 : Int32 → Hp → Option (Int32 × Hp)) (l0 : Option Nat) (l1 : Option Nat) (l2 : Int32) (l3 : Int32) (l4 : Int32)  (σ : Hp) : Option (Int32 × Hp) :=
  if l4 = 0 then
    X0_row_c106 k49 k213 l0 l1 l3 l4 l2 (0 : Int32) σ
  else
    X0_row_c106 k49 k213 l0 l1 l3 l4 l2 (1 : Int32) σ
set_option maxHeartbeats 4000000 in
theorem jX0_row_c95 {γ : GP} {σ0 : Hp} {q : (Int32 × Hp)} (hγ : GOK γ) (l0 : Option Nat) (l1 : Option Nat) (l2 : Int32) (l3 : Int32) (l4 : Int32) {k49 : Int32 → Int32 → Hp → Option (Int32 × Hp)} {k213 : Int32 → Hp → Option (Int32 × Hp)} (hk49 : ∀ (l2 : Int32) (l3 : Int32) (σ : Hp), k49 l2 l3 σ = some q → J γ mX0_row (σ0, .inr (some (.int q.1)), q.2) σ 49 [(0, 1, va_rf l0), (1, 1, va_rf l1), (2, 1, .int l2), (3, 1, .int l3)] []) (hk213 : ∀ (l2 : Int32) (σ : Hp), k213 l2 σ = some q → J γ mX0_row (σ0, .inr (some (.int q.1)), q.2) σ 213 [(0, 1, va_rf l0), (2, 1, .int l2)] [])  (σ : Hp) (h : X0_row_c95 k49 k213 l0 l1 l2 l3 l4 σ = some q) : J γ mX0_row (σ0, .inr (some (.int q.1)), q.2) σ 95 [(0, 1, va_rf l0), (1, 1, va_rf l1), (2, 1, .int l2), (3, 1, .int l3), (4, 1, .int l4)] [] := by
  unfold X0_row_c95 at h
  refine J_iload_n (i := 2) 2 96 dX0_row_95 rfl rfl rfl ?_
  refine J_iload (i := 4) 4 98 dX0_row_96 rfl rfl ?_
  refine J_if_eq 105 101 dX0_row_98 (by decide) rfl (fun c1 => ?_) (fun c1 => ?_)
  · rw [if_pos c1] at h
    refine J_ic 106 dX0_row_105 rfl (0 : Int32) kic_0 ?_
    refine J.pick [0, 1, 3, 4] rfl ?_
    exact jX0_row_c106 hγ l0 l1 l3 l4 hk49 hk213 l2 (0 : Int32) σ h
  · rw [if_neg c1] at h
    refine J_ic 102 dX0_row_101 rfl (1 : Int32) kic_1 ?_
    refine J_goto 106 dX0_row_102 (by decide) ?_
    refine J.pick [0, 1, 3, 4] rfl ?_
    exact jX0_row_c106 hγ l0 l1 l3 l4 hk49 hk213 l2 (1 : Int32) σ h
def X0_row_c163 (k49 : Int32 → Int32 → Hp → Option (Int32 × Hp)) (k213 : Int32 → Hp → Option (Int32 × Hp)) (l0 : Option Nat) (l1 : Option Nat) (l2 : Int32) (l3 : Int32) (s0 : Option Nat) (s1 : Int32) (s2 : Int32) (σ : Hp) : Option (Int32 × Hp) :=
  (pI σ s0 [0] 12 (s1 + s2)).bind fun σ1 =>
  k49 l2 (l3 + (2 : Int32)) σ1
set_option maxHeartbeats 4000000 in
theorem jX0_row_c163 {γ : GP} {σ0 : Hp} {q : (Int32 × Hp)} (hγ : GOK γ) (l0 : Option Nat) (l1 : Option Nat) (l2 : Int32) (l3 : Int32) {k49 : Int32 → Int32 → Hp → Option (Int32 × Hp)} {k213 : Int32 → Hp → Option (Int32 × Hp)} (hk49 : ∀ (l2 : Int32) (l3 : Int32) (σ : Hp), k49 l2 l3 σ = some q → J γ mX0_row (σ0, .inr (some (.int q.1)), q.2) σ 49 [(0, 1, va_rf l0), (1, 1, va_rf l1), (2, 1, .int l2), (3, 1, .int l3)] []) (hk213 : ∀ (l2 : Int32) (σ : Hp), k213 l2 σ = some q → J γ mX0_row (σ0, .inr (some (.int q.1)), q.2) σ 213 [(0, 1, va_rf l0), (2, 1, .int l2)] []) (s0 : Option Nat) (s1 : Int32) (s2 : Int32) (σ : Hp) (h : X0_row_c163 k49 k213 l0 l1 l2 l3 s0 s1 s2 σ = some q) : J γ mX0_row (σ0, .inr (some (.int q.1)), q.2) σ 163 [(0, 1, va_rf l0), (1, 1, va_rf l1), (2, 1, .int l2), (3, 1, .int l3)] [.int s2, .int s1, va_rf s0] := by
  unfold X0_row_c163 at h
  refine J_iadd 164 dX0_row_163 rfl ?_
  obtain ⟨σ1, hσ1, h⟩ := some_of_bind h
  refine J_pI 167 dX0_row_164 rfl pk_e_414 hσ1 ?_
  refine J_goto 207 dX0_row_167 (by decide) ?_
  refine J_iinc (i := 3) (v := l3 + (2 : Int32)) 3 210 [(3, 1, .int (l3 + (2 : Int32))), (0, 1, va_rf l0), (1, 1, va_rf l1), (2, 1, .int l2)] dX0_row_207 rfl rfl (Nat.le_of_ble_eq_true rfl) (by rw [kic_2]) rfl ?_
  refine J_goto 49 dX0_row_210 (by decide) ?_
  refine J.pick [1, 2, 3, 0] rfl ?_
  exact hk49 l2 (l3 + (2 : Int32)) σ1 h
def X0_row_c146 (k49 : Int32 → Int32 → Hp → Option (Int32 × Hp)) (k213 : Int32 → Hp → Option (Int32 × Hp)) (l0 : Option Nat) (l1 : Option Nat) (l3 : Int32) (l4 : Int32) (s0 : Int32) (s1 : Int32) (σ : Hp) : Option (Int32 × Hp) :=
  (gI σ l0 [0] 12).bind fun v1 =>
  if l4 = 0 then
    X0_row_c163 k49 k213 l0 l1 (s0 + s1) l3 l0 v1 (1 : Int32) σ
  else
    X0_row_c163 k49 k213 l0 l1 (s0 + s1) l3 l0 v1 (0 : Int32) σ
set_option maxHeartbeats 4000000 in
theorem jX0_row_c146 {γ : GP} {σ0 : Hp} {q : (Int32 × Hp)} (hγ : GOK γ) (l0 : Option Nat) (l1 : Option Nat) (l3 : Int32) (l4 : Int32) {k49 : Int32 → Int32 → Hp → Option (Int32 × Hp)} {k213 : Int32 → Hp → Option (Int32 × Hp)} (hk49 : ∀ (l2 : Int32) (l3 : Int32) (σ : Hp), k49 l2 l3 σ = some q → J γ mX0_row (σ0, .inr (some (.int q.1)), q.2) σ 49 [(0, 1, va_rf l0), (1, 1, va_rf l1), (2, 1, .int l2), (3, 1, .int l3)] []) (hk213 : ∀ (l2 : Int32) (σ : Hp), k213 l2 σ = some q → J γ mX0_row (σ0, .inr (some (.int q.1)), q.2) σ 213 [(0, 1, va_rf l0), (2, 1, .int l2)] []) (s0 : Int32) (s1 : Int32) (σ : Hp) (h : X0_row_c146 k49 k213 l0 l1 l3 l4 s0 s1 σ = some q) : J γ mX0_row (σ0, .inr (some (.int q.1)), q.2) σ 146 [(0, 1, va_rf l0), (1, 1, va_rf l1), (3, 1, .int l3), (4, 1, .int l4)] [.int s1, .int s0] := by
  unfold X0_row_c146 at h
  refine J_iadd 147 dX0_row_146 rfl ?_
  refine J_istore_n (i := 2) 148 [(2, 1, .int (s0 + s1)), (0, 1, va_rf l0), (1, 1, va_rf l1), (3, 1, .int l3), (4, 1, .int l4)] dX0_row_147 rfl rfl (Nat.le_of_ble_eq_true rfl) rfl ?_
  refine J_aload_n (i := 0) 1 149 dX0_row_148 rfl rfl rfl ?_
  refine J_dupr 150 dX0_row_149 rfl ?_
  obtain ⟨v1, hv1, h⟩ := some_of_bind h
  refine J_gI 153 dX0_row_150 rfl fk_z_264 hv1 ?_
  refine J_iload (i := 4) 4 155 dX0_row_153 rfl rfl ?_
  refine J_if_eq 162 158 dX0_row_155 (by decide) rfl (fun c2 => ?_) (fun c2 => ?_)
  · rw [if_pos c2] at h
    refine J_ic 163 dX0_row_162 rfl (1 : Int32) kic_1 ?_
    refine J.pick [1, 2, 0, 3] rfl ?_
    exact jX0_row_c163 hγ l0 l1 (s0 + s1) l3 hk49 hk213 l0 v1 (1 : Int32) σ h
  · rw [if_neg c2] at h
    refine J_ic 159 dX0_row_158 rfl (0 : Int32) kic_0 ?_
    refine J_goto 163 dX0_row_159 (by decide) ?_
    refine J.pick [1, 2, 0, 3] rfl ?_
    exact jX0_row_c163 hγ l0 l1 (s0 + s1) l3 hk49 hk213 l0 v1 (0 : Int32) σ h
def X0_row_c130 (k49 : Int32 → Int32 → Hp → Option (Int32 × Hp)) (k213 : Int32 → Hp → Option (Int32 × Hp)) (l0 : Option Nat) (l1 : Option Nat) (l2 : Int32) (l3 : Int32) (s0 : Option Nat) (σ : Hp) : Option (Int32 × Hp) :=
  if (0 : Int32) = 0 then
    X0_row_c146 k49 k213 l0 l1 l3 (0 : Int32) l2 (0 : Int32) σ
  else
    X0_row_c146 k49 k213 l0 l1 l3 (0 : Int32) l2 (1 : Int32) σ
set_option maxHeartbeats 4000000 in
theorem jX0_row_c130 {γ : GP} {σ0 : Hp} {q : (Int32 × Hp)} (hγ : GOK γ) (l0 : Option Nat) (l1 : Option Nat) (l2 : Int32) (l3 : Int32) {k49 : Int32 → Int32 → Hp → Option (Int32 × Hp)} {k213 : Int32 → Hp → Option (Int32 × Hp)} (hk49 : ∀ (l2 : Int32) (l3 : Int32) (σ : Hp), k49 l2 l3 σ = some q → J γ mX0_row (σ0, .inr (some (.int q.1)), q.2) σ 49 [(0, 1, va_rf l0), (1, 1, va_rf l1), (2, 1, .int l2), (3, 1, .int l3)] []) (hk213 : ∀ (l2 : Int32) (σ : Hp), k213 l2 σ = some q → J γ mX0_row (σ0, .inr (some (.int q.1)), q.2) σ 213 [(0, 1, va_rf l0), (2, 1, .int l2)] []) (s0 : Option Nat) (σ : Hp) (h : X0_row_c130 k49 k213 l0 l1 l2 l3 s0 σ = some q) : J γ mX0_row (σ0, .inr (some (.int q.1)), q.2) σ 130 [(0, 1, va_rf l0), (1, 1, va_rf l1), (2, 1, .int l2), (3, 1, .int l3)] [va_rf s0] := by
  unfold X0_row_c130 at h
  refine J_astore (i := 5) 132 [(5, 1, va_rf s0), (0, 1, va_rf l0), (1, 1, va_rf l1), (2, 1, .int l2), (3, 1, .int l3)] dX0_row_130 rfl (Nat.le_of_ble_eq_true rfl) rfl ?_
  refine J_ic 133 dX0_row_132 rfl (0 : Int32) kic_0 ?_
  refine J_istore (i := 4) 135 [(4, 1, .int (0 : Int32)), (5, 1, va_rf s0), (0, 1, va_rf l0), (1, 1, va_rf l1), (2, 1, .int l2), (3, 1, .int l3)] dX0_row_133 rfl (Nat.le_of_ble_eq_true rfl) rfl ?_
  refine J_iload_n (i := 2) 4 136 dX0_row_135 rfl rfl rfl ?_
  refine J_iload (i := 4) 0 138 dX0_row_136 rfl rfl ?_
  refine J_if_eq 145 141 dX0_row_138 (by decide) rfl (fun c1 => ?_) (fun c1 => ?_)
  · rw [if_pos c1] at h
    refine J_ic 146 dX0_row_145 rfl (0 : Int32) kic_0 ?_
    refine J.pick [2, 3, 5, 0] rfl ?_
    exact jX0_row_c146 hγ l0 l1 l3 (0 : Int32) hk49 hk213 l2 (0 : Int32) σ h
  · rw [if_neg c1] at h
    refine J_ic 142 dX0_row_141 rfl (1 : Int32) kic_1 ?_
    refine J_goto 146 dX0_row_142 (by decide) ?_
    refine J.pick [2, 3, 5, 0] rfl ?_
    exact jX0_row_c146 hγ l0 l1 l3 (0 : Int32) hk49 hk213 l2 (1 : Int32) σ h
def X0_row_c49 (l0 : Option Nat) (l1 : Option Nat) (k213 : Int32 → Hp → Option (Int32 × Hp)) : Nat → Int32 → Int32 → Hp → Option (Int32 × Hp)
  | 0, _, _, _ => none
  | n + 1, l2, l3, σ =>
    (aN σ l1).bind fun v1 =>
    if v1 ≤ l3 then
      k213 l2 σ
    else
      (X0_byteX l1 l3 σ).bind fun q3 =>
      bC q3 999 (fun a5 =>
        X0_row_c130 (X0_row_c49 l0 l1 k213 n) k213 l0 l1 l2 l3 (some a5) q3.2) fun w4 =>
      (X0_byteX l1 (l3 + (1 : Int32)) q3.2).bind fun q6 =>
      bC q6 999 (fun a8 =>
        X0_row_c130 (X0_row_c49 l0 l1 k213 n) k213 l0 l1 l2 l3 (some a8) q6.2) fun w7 =>
      (X0_isTenant w4 q6.2).bind fun q9 =>
      if q9.1 = 0 then
        X0_row_c95 (X0_row_c49 l0 l1 k213 n) k213 l0 l1 l2 l3 q9.1  q9.2
      else
        (cT q9.2 l0 0).bind fun b12 =>
        (X0_readIt l0 w4 w7 q9.2).bind fun q11 =>
        X0_row_c95 (X0_row_c49 l0 l1 k213 n) k213 l0 l1 l2 l3 q9.1  q11.2
set_option maxHeartbeats 4000000 in
theorem jX0_row_c49 {γ : GP} {σ0 : Hp} {q : (Int32 × Hp)} (hγ : GOK γ) (l0 : Option Nat) (l1 : Option Nat) {k213 : Int32 → Hp → Option (Int32 × Hp)} (hk213 : ∀ (l2 : Int32) (σ : Hp), k213 l2 σ = some q → J γ mX0_row (σ0, .inr (some (.int q.1)), q.2) σ 213 [(0, 1, va_rf l0), (2, 1, .int l2)] []) : ∀ (n : Nat) (l2 : Int32) (l3 : Int32) (σ : Hp), X0_row_c49 l0 l1 k213 n l2 l3 σ = some q → J γ mX0_row (σ0, .inr (some (.int q.1)), q.2) σ 49 [(0, 1, va_rf l0), (1, 1, va_rf l1), (2, 1, .int l2), (3, 1, .int l3)] [] := by
  intro n
  induction n with
  | zero => intro l2 l3 σ h; exact nomatch (show none = some q from h)
  | succ n ih =>
    intro l2 l3 σ h
    rw [X0_row_c49] at h
    refine J_iload_n (i := 3) 3 50 dX0_row_49 rfl rfl rfl ?_
    refine J_aload_n (i := 1) 1 51 dX0_row_50 rfl rfl rfl ?_
    obtain ⟨v1, hv1, h⟩ := some_of_bind h
    refine J_alen 52 dX0_row_51 rfl hv1 ?_
    refine J_icmp_ge 213 55 dX0_row_52 (by decide) rfl (fun c2 => ?_) (fun c2 => ?_)
    · rw [if_pos c2] at h
      refine J.pick [0, 2] rfl ?_
      exact hk213 l2 σ h
    · rw [if_neg c2] at h
      refine J_ic 56 dX0_row_55 rfl (0 : Int32) kic_0 ?_
      refine J_istore (i := 4) 58 [(4, 1, .int (0 : Int32)), (0, 1, va_rf l0), (1, 1, va_rf l1), (2, 1, .int l2), (3, 1, .int l3)] dX0_row_56 rfl (Nat.le_of_ble_eq_true rfl) rfl ?_
      refine J_aload_n (i := 1) 2 59 dX0_row_58 rfl rfl rfl ?_
      refine J_iload_n (i := 3) 4 60 dX0_row_59 rfl rfl rfl ?_
      obtain ⟨q3, hq3, h⟩ := some_of_bind h
      rcases bC_of h with ⟨a5, ha5, ht, h⟩ | ⟨w4, hw4, h⟩
      · refine J_cSTE dX0_row_60 ykX0_byteX q733 q734 (Nat.le_of_ble_eq_true rfl) cs_nil (by decide) [va_rf l1, .int l3] rfl rfl (by have hx := sX0_byteX hγ l1 l3 σ q3 hq3; rw [ha5] at hx; exact hx) (J_catch (E := "java/lang/ArrayIndexOutOfBoundsException") (if_neg (by rw [ht]; decide)) rfl (by decide) (by decide) q656 q706 ?_)
        refine J.pick [1, 2, 3, 4] rfl ?_
        exact jX0_row_c130 hγ l0 l1 l2 l3 ih hk213 (some a5) q3.2 h
      · refine J_cSi 63 dX0_row_60 rfl ykX0_byteX (Or.inl q733) q734 (Nat.le_of_ble_eq_true rfl) cs_nil (by decide) [va_rf l1, .int l3] rfl rfl (by have hx := sX0_byteX hγ l1 l3 σ q3 hq3; rw [hw4] at hx; exact hx) ?_
        refine J_istore (i := 5) 65 [(5, 1, .int w4), (4, 1, .int (0 : Int32)), (0, 1, va_rf l0), (1, 1, va_rf l1), (2, 1, .int l2), (3, 1, .int l3)] dX0_row_63 rfl (Nat.le_of_ble_eq_true rfl) rfl ?_
        refine J_aload_n (i := 1) 3 66 dX0_row_65 rfl rfl rfl ?_
        refine J_iload_n (i := 3) 5 67 dX0_row_66 rfl rfl rfl ?_
        refine J_ic 68 dX0_row_67 rfl (1 : Int32) kic_1 ?_
        refine J_iadd 69 dX0_row_68 rfl ?_
        obtain ⟨q6, hq6, h⟩ := some_of_bind h
        rcases bC_of h with ⟨a8, ha8, ht, h⟩ | ⟨w7, hw7, h⟩
        · refine J_cSTE dX0_row_69 ykX0_byteX q733 q734 (Nat.le_of_ble_eq_true rfl) cs_nil (by decide) [va_rf l1, .int (l3 + (1 : Int32))] rfl rfl (by have hx := sX0_byteX hγ l1 (l3 + (1 : Int32)) q3.2 q6 hq6; rw [ha8] at hx; exact hx) (J_catch (E := "java/lang/ArrayIndexOutOfBoundsException") (if_neg (by rw [ht]; decide)) rfl (by decide) (by decide) q656 q706 ?_)
          refine J.pick [2, 3, 4, 5] rfl ?_
          exact jX0_row_c130 hγ l0 l1 l2 l3 ih hk213 (some a8) q6.2 h
        · refine J_cSi 72 dX0_row_69 rfl ykX0_byteX (Or.inl q733) q734 (Nat.le_of_ble_eq_true rfl) cs_nil (by decide) [va_rf l1, .int (l3 + (1 : Int32))] rfl rfl (by have hx := sX0_byteX hγ l1 (l3 + (1 : Int32)) q3.2 q6 hq6; rw [hw7] at hx; exact hx) ?_
          refine J_istore (i := 6) 74 [(6, 1, .int w7), (5, 1, .int w4), (4, 1, .int (0 : Int32)), (0, 1, va_rf l0), (1, 1, va_rf l1), (2, 1, .int l2), (3, 1, .int l3)] dX0_row_72 rfl (Nat.le_of_ble_eq_true rfl) rfl ?_
          refine J_iload (i := 5) 1 76 dX0_row_74 rfl rfl ?_
          obtain ⟨q9, hq9, h⟩ := some_of_bind h
          refine J_cSi 79 dX0_row_76 rfl ykX0_isTenant (Or.inl q491) q492 (Nat.le_of_ble_eq_true rfl) cs_nil (by decide) [.int w4] rfl rfl (sX0_isTenant hγ w4 q6.2 q9 hq9) ?_
          refine J_istore (i := 4) 81 [(4, 1, .int q9.1), (6, 1, .int w7), (5, 1, .int w4), (0, 1, va_rf l0), (1, 1, va_rf l1), (2, 1, .int l2), (3, 1, .int l3)] dX0_row_79 rfl (Nat.le_of_ble_eq_true rfl) rfl ?_
          refine J_iload (i := 4) 0 83 dX0_row_81 rfl rfl ?_
          refine J_if_eq 95 86 dX0_row_83 (by decide) rfl (fun c10 => ?_) (fun c10 => ?_)
          · rw [if_pos c10] at h
            refine J.pick [3, 4, 5, 6, 0] rfl ?_
            exact jX0_row_c95 hγ l0 l1 l2 l3 q9.1 ih hk213  q9.2 h
          · rw [if_neg c10] at h
            refine J_aload_n (i := 0) 3 87 dX0_row_86 rfl rfl rfl ?_
            refine J_iload (i := 5) 2 89 dX0_row_87 rfl rfl ?_
            refine J_iload (i := 6) 1 91 dX0_row_89 rfl rfl ?_
            obtain ⟨b12, hb12, h⟩ := some_of_bind h
            obtain ⟨q11, hq11, h⟩ := some_of_bind h
            refine J_cVi 94 dX0_row_91 rfl ykX0_readIt (Or.inl q736) q738 qs11 (Nat.le_of_ble_eq_true rfl) cs_nil (by decide) [.int w4, .int w7] hb12 (by decide) rfl rfl rfl (sX0_readIt hγ l0 w4 w7 q9.2 q11 hq11) ?_
            refine J_popi 95 dX0_row_94 rfl ?_
            refine J.pick [3, 4, 5, 6, 0] rfl ?_
            exact jX0_row_c95 hγ l0 l1 l2 l3 q9.1 ih hk213  q11.2 h
def X0_row (l0 : Option Nat) (σ : Hp) : Option (Int32 × Hp) :=
  (gI σ l0 [0] 15).bind fun v1 =>
  if v1 = 0 then
    (cT σ l0 0).bind fun b15 =>
    (X0_tell l0 (-6 : Int32) σ).bind fun q14 =>
    some (q14.1, q14.2)
  else
    (gI σ l0 [0] 15).bind fun v3 =>
    (nA 2 σ v3).bind fun σ4 =>
    (gR σ4 l0 [0] 14).bind fun v5 =>
    (gI σ4 l0 [0] 15).bind fun v6 =>
    (cpI 2 σ4 v5 (0 : Int32) (some (hsz σ)) (0 : Int32) v6).bind fun σ7 =>
    (pI σ7 l0 [0] 15 (0 : Int32)).bind fun σ8 =>
    (pI σ8 l0 [0] 12 (0 : Int32)).bind fun σ9 =>
    X0_row_c49 l0 (some (hsz σ)) (fun x10 τ11 =>
      (cT τ11 l0 0).bind fun b13 =>
      (X0_settled l0 x10 τ11).bind fun q12 =>
      some (q12.1, q12.2)) FUEL (0 : Int32) (0 : Int32) σ9
set_option maxHeartbeats 4000000 in
theorem sX0_row {γ : GP} (hγ : GOK γ) (l0 : Option Nat) (σ : Hp) (q : (Int32 × Hp)) (h : X0_row l0 σ = some q) : RnH γ mX0_row yX0_row [va_rf l0] σ (some (.int q.1)) q.2 := by
  refine J_mH hγ ykX0_row [(1, va_rf l0)] (cats_r cats_nil) (Nat.le_of_ble_eq_true rfl) ?_
  show J γ mX0_row _ σ 0 [(0, 1, va_rf l0)] []
  unfold X0_row at h
  refine J_aload_n (i := 0) 0 1 dX0_row_0 rfl rfl rfl ?_
  obtain ⟨v1, hv1, h⟩ := some_of_bind h
  refine J_gI 4 dX0_row_1 rfl fk_z_257 hv1 ?_
  refine J_if_ne 14 7 dX0_row_4 (by decide) rfl (fun c2 => ?_) (fun c2 => ?_)
  · rw [if_neg c2] at h
    refine J_aload_n (i := 0) 0 15 dX0_row_14 rfl rfl rfl ?_
    obtain ⟨v3, hv3, h⟩ := some_of_bind h
    refine J_gI 18 dX0_row_15 rfl fk_z_257 hv3 ?_
    obtain ⟨σ4, hσ4, h⟩ := some_of_bind h
    refine J_newB 20 dX0_row_18 rfl hσ4 ?_
    refine J_astore_n (i := 1) 21 [(1, 1, va_rf (some (hsz σ))), (0, 1, va_rf l0)] dX0_row_20 rfl rfl (Nat.le_of_ble_eq_true rfl) rfl ?_
    refine J_aload_n (i := 0) 1 22 dX0_row_21 rfl rfl rfl ?_
    obtain ⟨v5, hv5, h⟩ := some_of_bind h
    refine J_gR 25 dX0_row_22 rfl fk_z_258 hv5 ?_
    refine J_ic 26 dX0_row_25 rfl (0 : Int32) kic_0 ?_
    refine J_aload_n (i := 1) 0 27 dX0_row_26 rfl rfl rfl ?_
    refine J_ic 28 dX0_row_27 rfl (0 : Int32) kic_0 ?_
    refine J_aload_n (i := 0) 1 29 dX0_row_28 rfl rfl rfl ?_
    obtain ⟨v6, hv6, h⟩ := some_of_bind h
    refine J_gI 32 dX0_row_29 rfl fk_z_257 hv6 ?_
    obtain ⟨σ7, hσ7, h⟩ := some_of_bind h
    refine J_cpI 2 (by decide) (by decide) rfl rfl q730 (Nat.le_of_ble_eq_true rfl) cs_nil (by decide) 35 dX0_row_32 rfl hσ7 ?_
    refine J_aload_n (i := 0) 1 36 dX0_row_35 rfl rfl rfl ?_
    refine J_ic 37 dX0_row_36 rfl (0 : Int32) kic_0 ?_
    obtain ⟨σ8, hσ8, h⟩ := some_of_bind h
    refine J_pI 40 dX0_row_37 rfl pk_z_273 hσ8 ?_
    refine J_aload_n (i := 0) 1 41 dX0_row_40 rfl rfl rfl ?_
    refine J_ic 42 dX0_row_41 rfl (0 : Int32) kic_0 ?_
    obtain ⟨σ9, hσ9, h⟩ := some_of_bind h
    refine J_pI 45 dX0_row_42 rfl pk_e_414 hσ9 ?_
    refine J_ic 46 dX0_row_45 rfl (0 : Int32) kic_0 ?_
    refine J_istore_n (i := 2) 47 [(2, 1, .int (0 : Int32)), (1, 1, va_rf (some (hsz σ))), (0, 1, va_rf l0)] dX0_row_46 rfl rfl (Nat.le_of_ble_eq_true rfl) rfl ?_
    refine J_ic 48 dX0_row_47 rfl (0 : Int32) kic_0 ?_
    refine J_istore_n (i := 3) 49 [(3, 1, .int (0 : Int32)), (2, 1, .int (0 : Int32)), (1, 1, va_rf (some (hsz σ))), (0, 1, va_rf l0)] dX0_row_48 rfl rfl (Nat.le_of_ble_eq_true rfl) rfl ?_
    refine J.pick [3, 2, 1, 0] rfl ?_
    refine jX0_row_c49 hγ l0 (some (hsz σ)) (fun x10 τ11 h => ?_) FUEL (0 : Int32) (0 : Int32) σ9 h
    · refine J_aload_n (i := 0) 0 214 dX0_row_213 rfl rfl rfl ?_
      refine J_iload_n (i := 2) 1 215 dX0_row_214 rfl rfl rfl ?_
      obtain ⟨b13, hb13, h⟩ := some_of_bind h
      obtain ⟨q12, hq12, h⟩ := some_of_bind h
      refine J_cVi 218 dX0_row_215 rfl ykX0_settled (Or.inl q764) q766 qs12 (Nat.le_of_ble_eq_true rfl) cs_nil (by decide) [.int x10] hb13 (by decide) rfl rfl rfl (sX0_settled hγ l0 x10 τ11 q12 hq12) ?_
      exact J_iret rfl dX0_row_218 (retI h)
  · rw [if_pos c2] at h
    refine J_aload_n (i := 0) 0 8 dX0_row_7 rfl rfl rfl ?_
    refine J_bipush 10 dX0_row_8 rfl (-6 : Int32) kbp_m6 ?_
    obtain ⟨b15, hb15, h⟩ := some_of_bind h
    obtain ⟨q14, hq14, h⟩ := some_of_bind h
    refine J_cVi 13 dX0_row_10 rfl ykX0_tell (Or.inl q630) q632 qs7 (Nat.le_of_ble_eq_true rfl) cs_nil (by decide) [.int (-6 : Int32)] hb15 (by decide) rfl rfl rfl (sX0_tell hγ l0 (-6 : Int32) σ q14 hq14) ?_
    exact J_iret rfl dX0_row_13 (retI h)
abbrev mX0_law : MP := (cX0_law, "MissCurves", 4, (Option.some FieldType.int), 88, "law", [(27, 71, 78, 286), (27, 71, 101, 0), (78, 94, 101, 0)])
theorem ykX0_law : YKH yX0_law mX0_law 0 := ⟨q1044, q128, ⟨by decide, by decide⟩, by decide +kernel, Nat.le_of_ble_eq_true rfl, by decide, rfl, rfl⟩
theorem fk_e_415 : FOK "MissCurves" 288 [11] 6 isI := FOK.one (by decide) rfl (Nat.le_of_ble_eq_true rfl) (Or.inr ⟨_, q1157⟩) rfl
def X0_law (l0 : Option Nat) (σ : Hp) : Option (Int32 × Hp) :=
  (gR σ l0 [0] 0).bind fun v1 =>
  (gR σ v1 [1] 0).bind fun v2 =>
  (cT σ v2 31).bind fun b4 =>
  (J2_size v2  σ).bind fun q3 =>
  if q3.1 = (6 : Int32) then
    (pI q3.2 l0 [0] 15 (0 : Int32)).bind fun σ29 =>
    (cT σ29 l0 0).bind fun b31 =>
    (X0_tell l0 (-5 : Int32) σ29).bind fun q30 =>
    some (q30.1, q30.2)
  else
    (gR q3.2 l0 [0] 0).bind fun v6 =>
    (gR q3.2 v6 [1] 0).bind fun v7 =>
    (some (hsz q3.2)).bind fun b9 =>
    (X10_init (some (hsz q3.2)) l0 (wN q3.2 10 0 11)).bind fun q8 =>
    (cT q8 (some (hsz q3.2)) 10).bind fun b11 =>
    (X10_read (some (hsz q3.2))  q8).bind fun q10 =>
    bC q10 11 (fun a13 =>
      (gI q10.2 (some a13) [11] 6).bind fun v24 =>
      (pI q10.2 l0 [0] 11 v24).bind fun σ25 =>
      (cT σ25 l0 0).bind fun b27 =>
      (X0_tell l0 (-6 : Int32) σ25).bind fun q26 =>
      (pI q26.2 l0 [0] 15 (0 : Int32)).bind fun σ28 =>
      some (q26.1, σ28)) fun w12 =>
    (cT q10.2 v7 31).bind fun b15 =>
    (J2_add v7 w12 q10.2).bind fun q14 =>
    (pI q14.2 l0 [0] 11 (-1 : Int32)).bind fun σ16 =>
    (gR σ16 l0 [0] 0).bind fun v17 =>
    (gR σ16 v17 [1] 0).bind fun v18 =>
    (cT σ16 v18 31).bind fun b20 =>
    (J2_size v18  σ16).bind fun q19 =>
    (cT q19.2 l0 0).bind fun b22 =>
    (X0_tell l0 (q19.1 - (1 : Int32)) q19.2).bind fun q21 =>
    (pI q21.2 l0 [0] 15 (0 : Int32)).bind fun σ23 =>
    some (q21.1, σ23)
set_option maxHeartbeats 4000000 in
theorem sX0_law {γ : GP} (hγ : GOK γ) (l0 : Option Nat) (σ : Hp) (q : (Int32 × Hp)) (h : X0_law l0 σ = some q) : RnH γ mX0_law yX0_law [va_rf l0] σ (some (.int q.1)) q.2 := by
  refine J_mH hγ ykX0_law [(1, va_rf l0)] (cats_r cats_nil) (Nat.le_of_ble_eq_true rfl) ?_
  show J γ mX0_law _ σ 0 [(0, 1, va_rf l0)] []
  unfold X0_law at h
  refine J_aload_n (i := 0) 0 1 dX0_law_0 rfl rfl rfl ?_
  obtain ⟨v1, hv1, h⟩ := some_of_bind h
  refine J_gR 4 dX0_law_1 rfl fk_x_133 hv1 ?_
  obtain ⟨v2, hv2, h⟩ := some_of_bind h
  refine J_gR 7 dX0_law_4 rfl fk_z_265 hv2 ?_
  obtain ⟨b4, hb4, h⟩ := some_of_bind h
  obtain ⟨q3, hq3, h⟩ := some_of_bind h
  refine J_cVi 10 dX0_law_7 rfl ykJ2_size (Or.inl q1046) q1047 q1048 (Nat.le_of_ble_eq_true rfl) cs_nil (by decide) [] hb4 (by decide) rfl rfl rfl (sJ2_size hγ v2  σ q3 hq3) ?_
  refine J_bipush 12 dX0_law_10 rfl (6 : Int32) kbp_6 ?_
  refine J_icmp_ne 27 15 dX0_law_12 (by decide) rfl (fun c5 => ?_) (fun c5 => ?_)
  · rw [if_neg c5] at h
    refine J_aload_n (i := 0) 0 28 dX0_law_27 rfl rfl rfl ?_
    obtain ⟨v6, hv6, h⟩ := some_of_bind h
    refine J_gR 31 dX0_law_28 rfl fk_x_133 hv6 ?_
    obtain ⟨v7, hv7, h⟩ := some_of_bind h
    refine J_gR 34 dX0_law_31 rfl fk_z_265 hv7 ?_
    refine J_new (c9 := 10) (nsl := 11) rfl (by decide) (by decide +kernel) q1050 q1051 q157 37 dX0_law_34 rfl ?_
    refine J_dupr 38 dX0_law_37 rfl ?_
    refine J_aload_n (i := 0) 0 39 dX0_law_38 rfl rfl rfl ?_
    obtain ⟨b9, hb9, h⟩ := some_of_bind h
    obtain ⟨q8, hq8, h⟩ := some_of_bind h
    refine J_cI 42 dX0_law_39 rfl ykX10_init rfl (Or.inl q1052) q1053 rfl (Nat.le_of_ble_eq_true rfl) (cs_rf (cs_rf cs_nil)) (by decide) [va_rf l0] hb9 rfl rfl (sX10_init hγ (some (hsz q3.2)) l0 (wN q3.2 10 0 11) q8 hq8) ?_
    obtain ⟨b11, hb11, h⟩ := some_of_bind h
    obtain ⟨q10, hq10, h⟩ := some_of_bind h
    rcases bC_of h with ⟨a13, ha13, ht, h⟩ | ⟨w12, hw12, h⟩
    · refine J_cVTE dX0_law_42 ykX10_read (Or.inl q1110) q1111 (Nat.le_of_ble_eq_true rfl) (cs_rf cs_nil) (by decide) [] (RC.one hb11 (by decide) rfl q1112) rfl rfl (by have hx := sX10_read hγ (some (hsz q3.2))  q8 q10 hq10; rw [ha13] at hx; exact hx) (J_catch (E := "MissCurves$Wrong") (if_pos ht) rfl (by decide) (by decide) q1045 q1140 ?_)
      refine J_astore_n (i := 1) 79 [(1, 1, va_rf (some a13)), (0, 1, va_rf l0)] dX0_law_78 rfl rfl (Nat.le_of_ble_eq_true rfl) rfl ?_
      refine J_aload_n (i := 0) 1 80 dX0_law_79 rfl rfl rfl ?_
      refine J_aload_n (i := 1) 0 81 dX0_law_80 rfl rfl rfl ?_
      obtain ⟨v24, hv24, h⟩ := some_of_bind h
      refine J_gI 84 dX0_law_81 rfl fk_e_415 hv24 ?_
      obtain ⟨σ25, hσ25, h⟩ := some_of_bind h
      refine J_pI 87 dX0_law_84 rfl pk_s_410 hσ25 ?_
      refine J_aload_n (i := 0) 1 88 dX0_law_87 rfl rfl rfl ?_
      refine J_bipush 90 dX0_law_88 rfl (-6 : Int32) kbp_m6 ?_
      obtain ⟨b27, hb27, h⟩ := some_of_bind h
      obtain ⟨q26, hq26, h⟩ := some_of_bind h
      refine J_cVi 93 dX0_law_90 rfl ykX0_tell (Or.inl q630) q632 qs7 (Nat.le_of_ble_eq_true rfl) cs_nil (by decide) [.int (-6 : Int32)] hb27 (by decide) rfl rfl rfl (sX0_tell hγ l0 (-6 : Int32) σ25 q26 hq26) ?_
      refine J_istore_n (i := 2) 94 [(2, 1, .int q26.1), (1, 1, va_rf (some a13)), (0, 1, va_rf l0)] dX0_law_93 rfl rfl (Nat.le_of_ble_eq_true rfl) rfl ?_
      refine J_aload_n (i := 0) 2 95 dX0_law_94 rfl rfl rfl ?_
      refine J_ic 96 dX0_law_95 rfl (0 : Int32) kic_0 ?_
      obtain ⟨σ28, hσ28, h⟩ := some_of_bind h
      refine J_pI 99 dX0_law_96 rfl pk_z_273 hσ28 ?_
      refine J_iload_n (i := 2) 0 100 dX0_law_99 rfl rfl rfl ?_
      exact J_iret rfl dX0_law_100 (retI h)
    · refine J_cWr 45 dX0_law_42 rfl ykX10_read (Or.inl q1110) q1111 (Nat.le_of_ble_eq_true rfl) (cs_rf cs_nil) (by decide) [] (RC.one hb11 (by decide) rfl q1112) rfl rfl (by have hx := sX10_read hγ (some (hsz q3.2))  q8 q10 hq10; rw [hw12] at hx; exact hx) ?_
      obtain ⟨b15, hb15, h⟩ := some_of_bind h
      obtain ⟨q14, hq14, h⟩ := some_of_bind h
      refine J_cVi 48 dX0_law_45 rfl ykJ2_add (Or.inl q1496) q1497 q1498 (Nat.le_of_ble_eq_true rfl) cs_nil (by decide) [va_rf w12] hb15 (by decide) rfl rfl rfl (sJ2_add hγ v7 w12 q10.2 q14 hq14) ?_
      refine J_popi 49 dX0_law_48 rfl ?_
      refine J_aload_n (i := 0) 0 50 dX0_law_49 rfl rfl rfl ?_
      refine J_ic 51 dX0_law_50 rfl (-1 : Int32) kic_m1 ?_
      obtain ⟨σ16, hσ16, h⟩ := some_of_bind h
      refine J_pI 54 dX0_law_51 rfl pk_s_410 hσ16 ?_
      refine J_aload_n (i := 0) 0 55 dX0_law_54 rfl rfl rfl ?_
      refine J_aload_n (i := 0) 0 56 dX0_law_55 rfl rfl rfl ?_
      obtain ⟨v17, hv17, h⟩ := some_of_bind h
      refine J_gR 59 dX0_law_56 rfl fk_x_133 hv17 ?_
      obtain ⟨v18, hv18, h⟩ := some_of_bind h
      refine J_gR 62 dX0_law_59 rfl fk_z_265 hv18 ?_
      obtain ⟨b20, hb20, h⟩ := some_of_bind h
      obtain ⟨q19, hq19, h⟩ := some_of_bind h
      refine J_cVi 65 dX0_law_62 rfl ykJ2_size (Or.inl q1046) q1047 q1048 (Nat.le_of_ble_eq_true rfl) (cs_rf cs_nil) (by decide) [] hb20 (by decide) rfl rfl rfl (sJ2_size hγ v18  σ16 q19 hq19) ?_
      refine J_ic 66 dX0_law_65 rfl (1 : Int32) kic_1 ?_
      refine J_isub 67 dX0_law_66 rfl ?_
      obtain ⟨b22, hb22, h⟩ := some_of_bind h
      obtain ⟨q21, hq21, h⟩ := some_of_bind h
      refine J_cVi 70 dX0_law_67 rfl ykX0_tell (Or.inl q630) q632 qs7 (Nat.le_of_ble_eq_true rfl) cs_nil (by decide) [.int (q19.1 - (1 : Int32))] hb22 (by decide) rfl rfl rfl (sX0_tell hγ l0 (q19.1 - (1 : Int32)) q19.2 q21 hq21) ?_
      refine J_istore_n (i := 1) 71 [(1, 1, .int q21.1), (0, 1, va_rf l0)] dX0_law_70 rfl rfl (Nat.le_of_ble_eq_true rfl) rfl ?_
      refine J_aload_n (i := 0) 1 72 dX0_law_71 rfl rfl rfl ?_
      refine J_ic 73 dX0_law_72 rfl (0 : Int32) kic_0 ?_
      obtain ⟨σ23, hσ23, h⟩ := some_of_bind h
      refine J_pI 76 dX0_law_73 rfl pk_z_273 hσ23 ?_
      refine J_iload_n (i := 1) 0 77 dX0_law_76 rfl rfl rfl ?_
      exact J_iret rfl dX0_law_77 (retI h)
  · rw [if_pos c5] at h
    refine J_aload_n (i := 0) 0 16 dX0_law_15 rfl rfl rfl ?_
    refine J_ic 17 dX0_law_16 rfl (0 : Int32) kic_0 ?_
    obtain ⟨σ29, hσ29, h⟩ := some_of_bind h
    refine J_pI 20 dX0_law_17 rfl pk_z_273 hσ29 ?_
    refine J_aload_n (i := 0) 0 21 dX0_law_20 rfl rfl rfl ?_
    refine J_bipush 23 dX0_law_21 rfl (-5 : Int32) kbp_m5 ?_
    obtain ⟨b31, hb31, h⟩ := some_of_bind h
    obtain ⟨q30, hq30, h⟩ := some_of_bind h
    refine J_cVi 26 dX0_law_23 rfl ykX0_tell (Or.inl q630) q632 qs7 (Nat.le_of_ble_eq_true rfl) cs_nil (by decide) [.int (-5 : Int32)] hb31 (by decide) rfl rfl rfl (sX0_tell hγ l0 (-5 : Int32) σ29 q30 hq30) ?_
    exact J_iret rfl dX0_law_26 (retI h)
abbrev mX0_orders : MP := (cX0_orders, "MissCurves", 5, (Option.some FieldType.int), 114, "orders", [(5, 22, 30, 286), (5, 22, 53, 0), (30, 46, 53, 0), (53, 55, 53, 0)])
theorem ykX0_orders : YKH yX0_orders mX0_orders 0 := ⟨q2057, q128, ⟨by decide, by decide⟩, by decide +kernel, Nat.le_of_ble_eq_true rfl, by decide, rfl, rfl⟩
theorem fk_e_416 : FOK "MissCurves" 43 [0] 4 isR := FOK.one (by decide) rfl (Nat.le_of_ble_eq_true rfl) (Or.inl ⟨_, q384, Or.inl rfl⟩) rfl
theorem fk_e_417 : FOK "MissCurves" 37 [0] 3 isR := FOK.one (by decide) rfl (Nat.le_of_ble_eq_true rfl) (Or.inl ⟨_, q383, Or.inl rfl⟩) rfl
theorem pk_e_418 {nm9 : String} : POK "MissCurves" nm9 494 [0] 24 .int := POK.one (by decide) rfl (Nat.le_of_ble_eq_true rfl) (Or.inl ⟨_, q409, Or.inl rfl⟩) rfl (by decide +kernel) (Or.inl rfl)
theorem pk_e_419 {nm9 : String} : POK "MissCurves" nm9 506 [0] 25 .int := POK.one (by decide) rfl (Nat.le_of_ble_eq_true rfl) (Or.inl ⟨_, q411, Or.inl rfl⟩) rfl (by decide +kernel) (Or.inl rfl)
def X0_orders_c129  (l0 : Option Nat) (l2 : Int32)  (σ : Hp) : Option (Int32 × Hp) :=
  (cT σ l0 0).bind fun b2 =>
  (X0_tell l0 l2 σ).bind fun q1 =>
  some (q1.1, q1.2)
set_option maxHeartbeats 4000000 in
theorem jX0_orders_c129 {γ : GP} {σ0 : Hp} {q : (Int32 × Hp)} (hγ : GOK γ) (l0 : Option Nat) (l2 : Int32)   (σ : Hp) (h : X0_orders_c129 l0 l2 σ = some q) : J γ mX0_orders (σ0, .inr (some (.int q.1)), q.2) σ 129 [(0, 1, va_rf l0), (2, 1, .int l2)] [] := by
  unfold X0_orders_c129 at h
  refine J_aload_n (i := 0) 0 130 dX0_orders_129 rfl rfl rfl ?_
  refine J_iload_n (i := 2) 1 131 dX0_orders_130 rfl rfl rfl ?_
  obtain ⟨b2, hb2, h⟩ := some_of_bind h
  obtain ⟨q1, hq1, h⟩ := some_of_bind h
  refine J_cVi 134 dX0_orders_131 rfl ykX0_tell (Or.inl q630) q632 qs7 (Nat.le_of_ble_eq_true rfl) cs_nil (by decide) [.int l2] hb2 (by decide) rfl rfl rfl (sX0_tell hγ l0 l2 σ q1 hq1) ?_
  exact J_iret rfl dX0_orders_134 (retI h)
def X0_orders (l0 : Option Nat) (σ : Hp) : Option (Int32 × Hp) :=
  (pI σ l0 [0] 13 (-1 : Int32)).bind fun σ1 =>
  (some (hsz σ1)).bind fun b3 =>
  (X23_init (some (hsz σ1)) l0 (wN σ1 23 0 10)).bind fun q2 =>
  (cT q2 (some (hsz σ1)) 23).bind fun b5 =>
  (X23_read_2 (some (hsz σ1))  q2).bind fun q4 =>
  bC q4 11 (fun a7 =>
    (gI q4.2 (some a7) [11] 6).bind fun v33 =>
    (pI q4.2 l0 [0] 11 v33).bind fun σ34 =>
    (cT σ34 l0 0).bind fun b36 =>
    (X0_tell l0 (-6 : Int32) σ34).bind fun q35 =>
    (pI q35.2 l0 [0] 15 (0 : Int32)).bind fun σ37 =>
    some (q35.1, σ37)) fun w6 =>
  (pI q4.2 l0 [0] 11 (-1 : Int32)).bind fun σ8 =>
  (pI σ8 l0 [0] 15 (0 : Int32)).bind fun σ9 =>
  (gR σ9 l0 [0] 4).bind fun v10 =>
  (cT σ9 l0 0).bind fun b12 =>
  (X0_books l0  σ9).bind fun q11 =>
  (cT q11.2 v10 2).bind fun b14 =>
  (X2_as v10 q11.1 q11.2).bind fun q13 =>
  (gR q13.2 l0 [0] 3).bind fun v15 =>
  (gR q13.2 l0 [0] 2).bind fun v16 =>
  (cT q13.2 v15 4).bind fun b18 =>
  (X4_as v15 v16 q13.2).bind fun q17 =>
  (pI q17 l0 [0] 24 (0 : Int32)).bind fun σ19 =>
  (pI σ19 l0 [0] 25 (-1 : Int32)).bind fun σ20 =>
  (cT σ20 l0 0).bind fun b22 =>
  (X0_runAll l0 w6 σ20).bind fun q21 =>
  if 0 ≤ q21.1 then
    X0_orders_c129  l0 q21.1  q21.2
  else
    (cT q21.2 l0 0).bind fun b25 =>
    (X0_books l0  q21.2).bind fun q24 =>
    (gR q24.2 l0 [0] 4).bind fun v26 =>
    (cT q24.2 q24.1 2).bind fun b28 =>
    (X2_as q24.1 v26 q24.2).bind fun q27 =>
    (gR q27.2 l0 [0] 2).bind fun v29 =>
    (gR q27.2 l0 [0] 3).bind fun v30 =>
    (cT q27.2 v29 4).bind fun b32 =>
    (X4_as v29 v30 q27.2).bind fun q31 =>
    X0_orders_c129  l0 q21.1  q31
set_option maxHeartbeats 4000000 in
theorem sX0_orders {γ : GP} (hγ : GOK γ) (l0 : Option Nat) (σ : Hp) (q : (Int32 × Hp)) (h : X0_orders l0 σ = some q) : RnH γ mX0_orders yX0_orders [va_rf l0] σ (some (.int q.1)) q.2 := by
  refine J_mH hγ ykX0_orders [(1, va_rf l0)] (cats_r cats_nil) (Nat.le_of_ble_eq_true rfl) ?_
  show J γ mX0_orders _ σ 0 [(0, 1, va_rf l0)] []
  unfold X0_orders at h
  refine J_aload_n (i := 0) 0 1 dX0_orders_0 rfl rfl rfl ?_
  refine J_ic 2 dX0_orders_1 rfl (-1 : Int32) kic_m1 ?_
  obtain ⟨σ1, hσ1, h⟩ := some_of_bind h
  refine J_pI 5 dX0_orders_2 rfl pk_z_305 hσ1 ?_
  refine J_new (c9 := 23) (nsl := 10) rfl (by decide) (by decide +kernel) q2058 q1428 q170 8 dX0_orders_5 rfl ?_
  refine J_dupr 9 dX0_orders_8 rfl ?_
  refine J_aload_n (i := 0) 0 10 dX0_orders_9 rfl rfl rfl ?_
  obtain ⟨b3, hb3, h⟩ := some_of_bind h
  obtain ⟨q2, hq2, h⟩ := some_of_bind h
  refine J_cI 13 dX0_orders_10 rfl ykX23_init rfl (Or.inl q2059) q2060 rfl (Nat.le_of_ble_eq_true rfl) (cs_rf cs_nil) (by decide) [va_rf l0] hb3 rfl rfl (sX23_init hγ (some (hsz σ1)) l0 (wN σ1 23 0 10) q2 hq2) ?_
  obtain ⟨b5, hb5, h⟩ := some_of_bind h
  obtain ⟨q4, hq4, h⟩ := some_of_bind h
  rcases bC_of h with ⟨a7, ha7, ht, h⟩ | ⟨w6, hw6, h⟩
  · refine J_cVTE dX0_orders_13 ykX23_read_2 (Or.inl q2085) q2086 (Nat.le_of_ble_eq_true rfl) cs_nil (by decide) [] (RC.one hb5 (by decide) rfl q2087) rfl rfl (by have hx := sX23_read_2 hγ (some (hsz σ1))  q2 q4 hq4; rw [ha7] at hx; exact hx) (J_catch (E := "MissCurves$Wrong") (if_pos ht) rfl (by decide) (by decide) q1045 q1140 ?_)
    refine J_astore_n (i := 2) 31 [(2, 1, va_rf (some a7)), (0, 1, va_rf l0)] dX0_orders_30 rfl rfl (Nat.le_of_ble_eq_true rfl) rfl ?_
    refine J_aload_n (i := 0) 1 32 dX0_orders_31 rfl rfl rfl ?_
    refine J_aload_n (i := 2) 0 33 dX0_orders_32 rfl rfl rfl ?_
    obtain ⟨v33, hv33, h⟩ := some_of_bind h
    refine J_gI 36 dX0_orders_33 rfl fk_e_415 hv33 ?_
    obtain ⟨σ34, hσ34, h⟩ := some_of_bind h
    refine J_pI 39 dX0_orders_36 rfl pk_s_410 hσ34 ?_
    refine J_aload_n (i := 0) 1 40 dX0_orders_39 rfl rfl rfl ?_
    refine J_bipush 42 dX0_orders_40 rfl (-6 : Int32) kbp_m6 ?_
    obtain ⟨b36, hb36, h⟩ := some_of_bind h
    obtain ⟨q35, hq35, h⟩ := some_of_bind h
    refine J_cVi 45 dX0_orders_42 rfl ykX0_tell (Or.inl q630) q632 qs7 (Nat.le_of_ble_eq_true rfl) cs_nil (by decide) [.int (-6 : Int32)] hb36 (by decide) rfl rfl rfl (sX0_tell hγ l0 (-6 : Int32) σ34 q35 hq35) ?_
    refine J_istore_n (i := 3) 46 [(3, 1, .int q35.1), (2, 1, va_rf (some a7)), (0, 1, va_rf l0)] dX0_orders_45 rfl rfl (Nat.le_of_ble_eq_true rfl) rfl ?_
    refine J_aload_n (i := 0) 2 47 dX0_orders_46 rfl rfl rfl ?_
    refine J_ic 48 dX0_orders_47 rfl (0 : Int32) kic_0 ?_
    obtain ⟨σ37, hσ37, h⟩ := some_of_bind h
    refine J_pI 51 dX0_orders_48 rfl pk_z_273 hσ37 ?_
    refine J_iload_n (i := 3) 0 52 dX0_orders_51 rfl rfl rfl ?_
    exact J_iret rfl dX0_orders_52 (retI h)
  · refine J_cWr 16 dX0_orders_13 rfl ykX23_read_2 (Or.inl q2085) q2086 (Nat.le_of_ble_eq_true rfl) cs_nil (by decide) [] (RC.one hb5 (by decide) rfl q2087) rfl rfl (by have hx := sX23_read_2 hγ (some (hsz σ1))  q2 q4 hq4; rw [hw6] at hx; exact hx) ?_
    refine J_astore_n (i := 1) 17 [(1, 1, va_rf w6), (0, 1, va_rf l0)] dX0_orders_16 rfl rfl (Nat.le_of_ble_eq_true rfl) rfl ?_
    refine J_aload_n (i := 0) 1 18 dX0_orders_17 rfl rfl rfl ?_
    refine J_ic 19 dX0_orders_18 rfl (-1 : Int32) kic_m1 ?_
    obtain ⟨σ8, hσ8, h⟩ := some_of_bind h
    refine J_pI 22 dX0_orders_19 rfl pk_s_410 hσ8 ?_
    refine J_aload_n (i := 0) 1 23 dX0_orders_22 rfl rfl rfl ?_
    refine J_ic 24 dX0_orders_23 rfl (0 : Int32) kic_0 ?_
    obtain ⟨σ9, hσ9, h⟩ := some_of_bind h
    refine J_pI 27 dX0_orders_24 rfl pk_z_273 hσ9 ?_
    refine J_goto 63 dX0_orders_27 (by decide) ?_
    refine J_aload_n (i := 0) 1 64 dX0_orders_63 rfl rfl rfl ?_
    obtain ⟨v10, hv10, h⟩ := some_of_bind h
    refine J_gR 67 dX0_orders_64 rfl fk_e_416 hv10 ?_
    refine J_aload_n (i := 0) 1 68 dX0_orders_67 rfl rfl rfl ?_
    obtain ⟨b12, hb12, h⟩ := some_of_bind h
    obtain ⟨q11, hq11, h⟩ := some_of_bind h
    refine J_cVr 71 dX0_orders_68 rfl ykX0_books (Or.inl q499) q501 qs2 (Nat.le_of_ble_eq_true rfl) (cs_rf cs_nil) (by decide) [] hb12 (by decide) rfl rfl rfl (sX0_books hγ l0  σ9 q11 hq11) ?_
    obtain ⟨b14, hb14, h⟩ := some_of_bind h
    obtain ⟨q13, hq13, h⟩ := some_of_bind h
    refine J_cVr 74 dX0_orders_71 rfl ykX2_as (Or.inl q1634) q1586 q1587 (Nat.le_of_ble_eq_true rfl) cs_nil (by decide) [va_rf q11.1] hb14 (by decide) rfl rfl rfl (sX2_as hγ v10 q11.1 q11.2 q13 hq13) ?_
    refine J_popr 75 dX0_orders_74 rfl ?_
    refine J_aload_n (i := 0) 1 76 dX0_orders_75 rfl rfl rfl ?_
    obtain ⟨v15, hv15, h⟩ := some_of_bind h
    refine J_gR 79 dX0_orders_76 rfl fk_e_417 hv15 ?_
    refine J_aload_n (i := 0) 1 80 dX0_orders_79 rfl rfl rfl ?_
    obtain ⟨v16, hv16, h⟩ := some_of_bind h
    refine J_gR 83 dX0_orders_80 rfl fk_z_253 hv16 ?_
    obtain ⟨b18, hb18, h⟩ := some_of_bind h
    obtain ⟨q17, hq17, h⟩ := some_of_bind h
    refine J_cVv 86 dX0_orders_83 rfl ykX4_as (Or.inl q2093) q2094 q2095 (Nat.le_of_ble_eq_true rfl) cs_nil (by decide) [va_rf v16] hb18 (by decide) rfl rfl rfl (sX4_as hγ v15 v16 q13.2 q17 hq17) ?_
    refine J_aload_n (i := 0) 1 87 dX0_orders_86 rfl rfl rfl ?_
    refine J_ic 88 dX0_orders_87 rfl (0 : Int32) kic_0 ?_
    obtain ⟨σ19, hσ19, h⟩ := some_of_bind h
    refine J_pI 91 dX0_orders_88 rfl pk_e_418 hσ19 ?_
    refine J_aload_n (i := 0) 1 92 dX0_orders_91 rfl rfl rfl ?_
    refine J_ic 93 dX0_orders_92 rfl (-1 : Int32) kic_m1 ?_
    obtain ⟨σ20, hσ20, h⟩ := some_of_bind h
    refine J_pI 96 dX0_orders_93 rfl pk_e_419 hσ20 ?_
    refine J_aload_n (i := 0) 1 97 dX0_orders_96 rfl rfl rfl ?_
    refine J_aload_n (i := 1) 0 98 dX0_orders_97 rfl rfl rfl ?_
    obtain ⟨b22, hb22, h⟩ := some_of_bind h
    obtain ⟨q21, hq21, h⟩ := some_of_bind h
    refine J_cVi 101 dX0_orders_98 rfl ykX0_runAll (Or.inl q2097) q2099 qs35 (Nat.le_of_ble_eq_true rfl) cs_nil (by decide) [va_rf w6] hb22 (by decide) rfl rfl rfl (sX0_runAll hγ l0 w6 σ20 q21 hq21) ?_
    refine J_istore_n (i := 2) 102 [(2, 1, .int q21.1), (1, 1, va_rf w6), (0, 1, va_rf l0)] dX0_orders_101 rfl rfl (Nat.le_of_ble_eq_true rfl) rfl ?_
    refine J_iload_n (i := 2) 0 103 dX0_orders_102 rfl rfl rfl ?_
    refine J_if_ge 129 106 dX0_orders_103 (by decide) rfl (fun c23 => ?_) (fun c23 => ?_)
    · rw [if_pos c23] at h
      refine J.pick [2, 0] rfl ?_
      exact jX0_orders_c129 hγ l0 q21.1  q21.2 h
    · rw [if_neg c23] at h
      refine J_aload_n (i := 0) 2 107 dX0_orders_106 rfl rfl rfl ?_
      obtain ⟨b25, hb25, h⟩ := some_of_bind h
      obtain ⟨q24, hq24, h⟩ := some_of_bind h
      refine J_cVr 110 dX0_orders_107 rfl ykX0_books (Or.inl q499) q501 qs2 (Nat.le_of_ble_eq_true rfl) cs_nil (by decide) [] hb25 (by decide) rfl rfl rfl (sX0_books hγ l0  q21.2 q24 hq24) ?_
      refine J_aload_n (i := 0) 2 111 dX0_orders_110 rfl rfl rfl ?_
      obtain ⟨v26, hv26, h⟩ := some_of_bind h
      refine J_gR 114 dX0_orders_111 rfl fk_e_416 hv26 ?_
      obtain ⟨b28, hb28, h⟩ := some_of_bind h
      obtain ⟨q27, hq27, h⟩ := some_of_bind h
      refine J_cVr 117 dX0_orders_114 rfl ykX2_as (Or.inl q1634) q1586 q1587 (Nat.le_of_ble_eq_true rfl) cs_nil (by decide) [va_rf v26] hb28 (by decide) rfl rfl rfl (sX2_as hγ q24.1 v26 q24.2 q27 hq27) ?_
      refine J_popr 118 dX0_orders_117 rfl ?_
      refine J_aload_n (i := 0) 2 119 dX0_orders_118 rfl rfl rfl ?_
      obtain ⟨v29, hv29, h⟩ := some_of_bind h
      refine J_gR 122 dX0_orders_119 rfl fk_z_253 hv29 ?_
      refine J_aload_n (i := 0) 2 123 dX0_orders_122 rfl rfl rfl ?_
      obtain ⟨v30, hv30, h⟩ := some_of_bind h
      refine J_gR 126 dX0_orders_123 rfl fk_e_417 hv30 ?_
      obtain ⟨b32, hb32, h⟩ := some_of_bind h
      obtain ⟨q31, hq31, h⟩ := some_of_bind h
      refine J_cVv 129 dX0_orders_126 rfl ykX4_as (Or.inl q2093) q2094 q2095 (Nat.le_of_ble_eq_true rfl) cs_nil (by decide) [va_rf v30] hb32 (by decide) rfl rfl rfl (sX4_as hγ v29 v30 q27.2 q31 hq31) ?_
      refine J.pick [2, 0] rfl ?_
      exact jX0_orders_c129 hγ l0 q21.1  q31 h
