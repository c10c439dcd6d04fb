set_option maxRecDepth 100000
abbrev mX5_within : MP := (cX5_within, "MissCurves$Asked", 3, (Option.some FieldType.long), 0, "within", [])
theorem ykX5_within : YK yX5_within mX5_within 1 := ⟨q593, q136, ⟨by decide, by decide⟩, by decide +kernel, Nat.le_of_ble_eq_true rfl, by decide, rfl, rfl⟩
theorem pk_x_130 {nm9 : String} : POK "MissCurves$Asked" nm9 13 [5] 1 .boolean := POK.one (by decide) rfl (Nat.le_of_ble_eq_true rfl) (Or.inl ⟨_, q353, Or.inl rfl⟩) rfl (by decide +kernel) (Or.inl rfl)
theorem fk_x_131 : FOK "MissCurves$Asked" 13 [5] 1 isI := FOK.one (by decide) rfl (Nat.le_of_ble_eq_true rfl) (Or.inl ⟨_, q353, Or.inl rfl⟩) rfl
def X5_within_c29  (l0 : Option Nat) (l1 : Int64) (s0 : Option Nat) (s1 : Int32) (σ : Hp) : Option (Int64 × Hp) :=
  (pZ σ s0 [5] 1 s1).bind fun σ1 =>
  (gI σ1 l0 [5] 1).bind fun v2 =>
  if v2 = 0 then
    some (l1, σ1)
  else
    some ((0 : Int64), σ1)
set_option maxHeartbeats 4000000 in
theorem jX5_within_c29 {γ : GP} {σ0 : Hp} {q : (Int64 × Hp)} (hγ : GOK γ) (l0 : Option Nat) (l1 : Int64)  (s0 : Option Nat) (s1 : Int32) (σ : Hp) (h : X5_within_c29 l0 l1 s0 s1 σ = some q) : J γ mX5_within (σ0, .inr (some (.long q.1)), q.2) σ 29 [(0, 1, va_rf l0), (1, 2, .long l1)] [.int s1, va_rf s0] := by
  unfold X5_within_c29 at h
  obtain ⟨σ1, hσ1, h⟩ := some_of_bind h
  refine J_pZ 32 dX5_within_29 rfl pk_x_130 hσ1 ?_
  refine J_aload_n (i := 0) 0 33 dX5_within_32 rfl rfl rfl ?_
  obtain ⟨v2, hv2, h⟩ := some_of_bind h
  refine J_gI 36 dX5_within_33 rfl fk_x_131 hv2 ?_
  refine J_if_eq 43 39 dX5_within_36 (by decide) rfl (fun c3 => ?_) (fun c3 => ?_)
  · rw [if_pos c3] at h
    refine J_lload_n (i := 1) 1 44 dX5_within_43 rfl rfl rfl ?_
    exact J_lret rfl dX5_within_44 (retL h)
  · rw [if_neg c3] at h
    refine J_lconst 40 dX5_within_39 rfl (0 : Int64) rfl ?_
    refine J_goto 44 dX5_within_40 (by decide) ?_
    exact J_lret rfl dX5_within_44 (retL h)
def X5_within (l0 : Option Nat) (l1 : Int64) (σ : Hp) : Option (Int64 × Hp) :=
  (gI σ l0 [5] 1).bind fun v1 =>
  if v1 = 0 then
    if 0 < (lg_cmp l1 (1000000000 : Int64)) then
      X5_within_c29  l0 l1 l0 (1 : Int32) σ
    else
      if 0 ≤ (lg_cmp l1 (-1000000000 : Int64)) then
        X5_within_c29  l0 l1 l0 (0 : Int32) σ
      else
        X5_within_c29  l0 l1 l0 (1 : Int32) σ
  else
    X5_within_c29  l0 l1 l0 (1 : Int32) σ
set_option maxHeartbeats 4000000 in
theorem sX5_within {γ : GP} (hγ : GOK γ) (l0 : Option Nat) (l1 : Int64) (σ : Hp) (q : (Int64 × Hp)) (h : X5_within l0 l1 σ = some q) : Rn γ mX5_within yX5_within [va_rf l0, .long l1] (σ, .inr (some (.long q.1)), q.2) := by
  refine J_m hγ ykX5_within rfl [(1, va_rf l0), (2, .long l1)] (cats_r (cats_l cats_nil)) (Nat.le_of_ble_eq_true rfl) ?_
  show J γ mX5_within _ σ 0 [(0, 1, va_rf l0), (1, 2, .long l1)] []
  unfold X5_within at h
  refine J_aload_n (i := 0) 0 1 dX5_within_0 rfl rfl rfl ?_
  refine J_aload_n (i := 0) 0 2 dX5_within_1 rfl rfl rfl ?_
  obtain ⟨v1, hv1, h⟩ := some_of_bind h
  refine J_gI 5 dX5_within_2 rfl fk_x_131 hv1 ?_
  refine J_if_ne 24 8 dX5_within_5 (by decide) rfl (fun c2 => ?_) (fun c2 => ?_)
  · rw [if_neg c2] at h
    refine J_ic 25 dX5_within_24 rfl (1 : Int32) kic_1 ?_
    refine J_goto 29 dX5_within_25 (by decide) ?_
    exact jX5_within_c29 hγ l0 l1 l0 (1 : Int32) σ h
  · rw [if_pos c2] at h
    refine J_lload_n (i := 1) 1 9 dX5_within_8 rfl rfl rfl ?_
    refine J_ldc2 (v := (1000000000 : Int64)) 12 dX5_within_9 rfl q594 ?_
    refine J_lcmp 13 dX5_within_12 rfl ?_
    refine J_if_gt 24 16 dX5_within_13 (by decide) rfl (fun c3 => ?_) (fun c3 => ?_)
    · rw [if_pos c3] at h
      refine J_ic 25 dX5_within_24 rfl (1 : Int32) kic_1 ?_
      refine J_goto 29 dX5_within_25 (by decide) ?_
      exact jX5_within_c29 hγ l0 l1 l0 (1 : Int32) σ h
    · rw [if_neg c3] at h
      refine J_lload_n (i := 1) 1 17 dX5_within_16 rfl rfl rfl ?_
      refine J_ldc2 (v := (-1000000000 : Int64)) 20 dX5_within_17 rfl q595 ?_
      refine J_lcmp 21 dX5_within_20 rfl ?_
      refine J_if_ge 28 24 dX5_within_21 (by decide) rfl (fun c4 => ?_) (fun c4 => ?_)
      · rw [if_pos c4] at h
        refine J_ic 29 dX5_within_28 rfl (0 : Int32) kic_0 ?_
        exact jX5_within_c29 hγ l0 l1 l0 (0 : Int32) σ h
      · rw [if_neg c4] at h
        refine J_ic 25 dX5_within_24 rfl (1 : Int32) kic_1 ?_
        refine J_goto 29 dX5_within_25 (by decide) ?_
        exact jX5_within_c29 hγ l0 l1 l0 (1 : Int32) σ h
abbrev mX5_init : MP := (cX5_init, "MissCurves$Asked", 1, (Option.none : Option FieldType), 1, "<init>", [])
theorem ykX5_init : YK yX5_init mX5_init 0 := ⟨q346, q136, ⟨by decide, by decide⟩, by decide +kernel, Nat.le_of_ble_eq_true rfl, by decide, rfl, rfl⟩
theorem pk_x_132 : POK "MissCurves$Asked" "<init>" 7 [5] 0 (.array .long) := POK.one (by decide) rfl (Nat.le_of_ble_eq_true rfl) (Or.inl ⟨_, q348, Or.inl rfl⟩) rfl (by decide +kernel) (Or.inr ⟨rfl, rfl, rfl, _, q348, Or.inl rfl⟩)
def X5_init (l0 : Option Nat) (σ : Hp) : Option Hp :=
  l0.bind fun b1 =>
  (nA 1 σ (6 : Int32)).bind fun σ2 =>
  (pR σ2 l0 [5] 0 (some (hsz σ))).bind fun σ3 =>
  some σ3
set_option maxHeartbeats 4000000 in
theorem sX5_init {γ : GP} (hγ : GOK γ) (l0 : Option Nat) (σ : Hp) (q : Hp) (h : X5_init l0 σ = some q) : Rn γ mX5_init yX5_init [va_rf l0] (σ, .inr none, q) := by
  refine J_m hγ ykX5_init rfl [(1, va_rf l0)] (cats_r cats_nil) (Nat.le_of_ble_eq_true rfl) ?_
  show J γ mX5_init _ σ 0 [(0, 1, va_rf l0)] []
  unfold X5_init at h
  refine J_aload_n (i := 0) 0 1 dX5_init_0 rfl rfl rfl ?_
  obtain ⟨b1, hb1, h⟩ := some_of_bind h
  refine J_oI hb1 q347 (Nat.le_of_ble_eq_true rfl) cs_nil (by decide) 4 dX5_init_1 rfl ?_
  refine J_aload_n (i := 0) 0 5 dX5_init_4 rfl rfl rfl ?_
  refine J_bipush 7 dX5_init_5 rfl (6 : Int32) kbp_6 ?_
  obtain ⟨σ2, hσ2, h⟩ := some_of_bind h
  refine J_newL 9 dX5_init_7 rfl hσ2 ?_
  obtain ⟨σ3, hσ3, h⟩ := some_of_bind h
  refine J_pR rfl 12 dX5_init_9 rfl pk_x_132 hσ3 ?_
  exact J_vret rfl dX5_init_12 (retV h)
abbrev mX0_books : MP := (cX0_books, "MissCurves", 1, (Option.some (FieldType.object "MissCurves$Books")), 0, "books", [])
theorem ykX0_books : YK yX0_books mX0_books 0 := ⟨q502, q128, ⟨by decide, by decide⟩, by decide +kernel, Nat.le_of_ble_eq_true rfl, by decide, rfl, rfl⟩
theorem fk_x_133 : FOK "MissCurves" 22 [0] 0 isR := FOK.one (by decide) rfl (Nat.le_of_ble_eq_true rfl) (Or.inl ⟨_, q380, Or.inl rfl⟩) rfl
theorem fk_x_134 : FOK "MissCurves" 133 [1] 3 isR := FOK.one (by decide) rfl (Nat.le_of_ble_eq_true rfl) (Or.inr ⟨_, q299⟩) rfl
def X0_books (l0 : Option Nat) (σ : Hp) : Option (Option Nat × Hp) :=
  (gR σ l0 [0] 0).bind fun v1 =>
  (gR σ v1 [1] 3).bind fun v2 =>
  some (v2, σ)
set_option maxHeartbeats 4000000 in
theorem sX0_books {γ : GP} (hγ : GOK γ) (l0 : Option Nat) (σ : Hp) (q : (Option Nat × Hp)) (h : X0_books l0 σ = some q) : Rn γ mX0_books yX0_books [va_rf l0] (σ, .inr (some (va_rf q.1)), q.2) := by
  refine J_m hγ ykX0_books rfl [(1, va_rf l0)] (cats_r cats_nil) (Nat.le_of_ble_eq_true rfl) ?_
  show J γ mX0_books _ σ 0 [(0, 1, va_rf l0)] []
  unfold X0_books at h
  refine J_aload_n (i := 0) 0 1 dX0_books_0 rfl rfl rfl ?_
  obtain ⟨v1, hv1, h⟩ := some_of_bind h
  refine J_gR 4 dX0_books_1 rfl fk_x_133 hv1 ?_
  obtain ⟨v2, hv2, h⟩ := some_of_bind h
  refine J_gR 7 dX0_books_4 rfl fk_x_134 hv2 ?_
  exact J_aret rfl (Or.inl ⟨_, rfl⟩) dX0_books_7 (retR h)
abbrev mX0_book : MP := (cX0_book, "MissCurves", 2, (Option.some (FieldType.object "MissCurves$Book")), 1, "book", [])
theorem ykX0_book : YK yX0_book mX0_book 1 := ⟨q498, q128, ⟨by decide, by decide⟩, by decide +kernel, Nat.le_of_ble_eq_true rfl, by decide, rfl, rfl⟩
theorem fk_x_135 : FOK "MissCurves" 139 [2] 0 isR := FOK.one (by decide) rfl (Nat.le_of_ble_eq_true rfl) (Or.inr ⟨_, q278⟩) rfl
def X0_book (l0 : Option Nat) (l1 : Int32) (σ : Hp) : Option (Option Nat × Hp) :=
  (cT σ l0 0).bind fun b2 =>
  (X0_books l0  σ).bind fun q1 =>
  (gR q1.2 q1.1 [2] 0).bind fun v3 =>
  (aR 7 q1.2 v3 l1).bind fun v4 =>
  some (v4, q1.2)
set_option maxHeartbeats 4000000 in
theorem sX0_book {γ : GP} (hγ : GOK γ) (l0 : Option Nat) (l1 : Int32) (σ : Hp) (q : (Option Nat × Hp)) (h : X0_book l0 l1 σ = some q) : Rn γ mX0_book yX0_book [va_rf l0, .int l1] (σ, .inr (some (va_rf q.1)), q.2) := by
  refine J_m hγ ykX0_book rfl [(1, va_rf l0), (1, .int l1)] (cats_r (cats_i cats_nil)) (Nat.le_of_ble_eq_true rfl) ?_
  show J γ mX0_book _ σ 0 [(0, 1, va_rf l0), (1, 1, .int l1)] []
  unfold X0_book at h
  refine J_aload_n (i := 0) 0 1 dX0_book_0 rfl rfl rfl ?_
  obtain ⟨b2, hb2, h⟩ := some_of_bind h
  obtain ⟨q1, hq1, h⟩ := some_of_bind h
  refine J_cVr 4 dX0_book_1 rfl ykX0_books (Or.inl q499) q501 qs2 (Nat.le_of_ble_eq_true rfl) cs_nil (by decide) [] hb2 (by decide) rfl rfl rfl (sX0_books hγ l0  σ q1 hq1) ?_
  obtain ⟨v3, hv3, h⟩ := some_of_bind h
  refine J_gR 7 dX0_book_4 rfl fk_x_135 hv3 ?_
  refine J_iload_n (i := 1) 1 8 dX0_book_7 rfl rfl rfl ?_
  obtain ⟨v4, hv4, h⟩ := some_of_bind h
  refine J_aald 7 (by decide) (by decide) rfl 9 dX0_book_8 rfl hv4 ?_
  exact J_aret rfl (Or.inl ⟨_, rfl⟩) dX0_book_9 (retR h)
abbrev mX13_of : MP := (cX13_of, "MissCurves$Amount", 2, (Option.some FieldType.long), 0, "of", [])
theorem ykX13_of : YK yX13_of mX13_of 1 := ⟨q580, q160, ⟨by decide, by decide⟩, by decide +kernel, Nat.le_of_ble_eq_true rfl, by decide, rfl, rfl⟩
theorem fk_x_136 : FOK "MissCurves$Amount" 7 [13] 0 isI := FOK.one (by decide) rfl (Nat.le_of_ble_eq_true rfl) (Or.inl ⟨_, q1258, Or.inl rfl⟩) rfl
def X13_of (l0 : Option Nat) (l1 : Option Nat) (σ : Hp) : Option (Int64 × Hp) :=
  (gI σ l0 [13] 0).bind fun v1 =>
  some (v1.toInt64, σ)
set_option maxHeartbeats 4000000 in
theorem sX13_of {γ : GP} (hγ : GOK γ) (l0 : Option Nat) (l1 : Option Nat) (σ : Hp) (q : (Int64 × Hp)) (h : X13_of l0 l1 σ = some q) : Rn γ mX13_of yX13_of [va_rf l0, va_rf l1] (σ, .inr (some (.long q.1)), q.2) := by
  refine J_m hγ ykX13_of rfl [(1, va_rf l0), (1, va_rf l1)] (cats_r (cats_r cats_nil)) (Nat.le_of_ble_eq_true rfl) ?_
  show J γ mX13_of _ σ 0 [(0, 1, va_rf l0), (1, 1, va_rf l1)] []
  unfold X13_of at h
  refine J_aload_n (i := 0) 0 1 dX13_of_0 rfl rfl rfl ?_
  obtain ⟨v1, hv1, h⟩ := some_of_bind h
  refine J_gI 4 dX13_of_1 rfl fk_x_136 hv1 ?_
  refine J_i2l 5 dX13_of_4 rfl ?_
  exact J_lret rfl dX13_of_5 (retL h)
abbrev mX14_of : MP := (cX14_of, "MissCurves$Part", 2, (Option.some FieldType.long), 0, "of", [])
theorem ykX14_of : YK yX14_of mX14_of 1 := ⟨q589, q161, ⟨by decide, by decide⟩, by decide +kernel, Nat.le_of_ble_eq_true rfl, by decide, rfl, rfl⟩
theorem fk_x_137 : FOK "MissCurves$Part" 13 [5] 0 isR := FOK.one (by decide) rfl (Nat.le_of_ble_eq_true rfl) (Or.inr ⟨_, q349⟩) rfl
theorem fk_x_138 : FOK "MissCurves$Part" 7 [14] 0 isI := FOK.one (by decide) rfl (Nat.le_of_ble_eq_true rfl) (Or.inl ⟨_, q1275, Or.inl rfl⟩) rfl
def X14_of (l0 : Option Nat) (l1 : Option Nat) (σ : Hp) : Option (Int64 × Hp) :=
  (gR σ l1 [5] 0).bind fun v1 =>
  (gI σ l0 [14] 0).bind fun v2 =>
  (aL σ v1 v2).bind fun v3 =>
  some (v3, σ)
set_option maxHeartbeats 4000000 in
theorem sX14_of {γ : GP} (hγ : GOK γ) (l0 : Option Nat) (l1 : Option Nat) (σ : Hp) (q : (Int64 × Hp)) (h : X14_of l0 l1 σ = some q) : Rn γ mX14_of yX14_of [va_rf l0, va_rf l1] (σ, .inr (some (.long q.1)), q.2) := by
  refine J_m hγ ykX14_of rfl [(1, va_rf l0), (1, va_rf l1)] (cats_r (cats_r cats_nil)) (Nat.le_of_ble_eq_true rfl) ?_
  show J γ mX14_of _ σ 0 [(0, 1, va_rf l0), (1, 1, va_rf l1)] []
  unfold X14_of at h
  refine J_aload_n (i := 1) 1 1 dX14_of_0 rfl rfl rfl ?_
  obtain ⟨v1, hv1, h⟩ := some_of_bind h
  refine J_gR 4 dX14_of_1 rfl fk_x_137 hv1 ?_
  refine J_aload_n (i := 0) 0 5 dX14_of_4 rfl rfl rfl ?_
  obtain ⟨v2, hv2, h⟩ := some_of_bind h
  refine J_gI 8 dX14_of_5 rfl fk_x_138 hv2 ?_
  obtain ⟨v3, hv3, h⟩ := some_of_bind h
  refine J_lald 9 dX14_of_8 rfl hv3 ?_
  exact J_lret rfl dX14_of_9 (retL h)
abbrev mX15_of : MP := (cX15_of, "MissCurves$Of", 2, (Option.some FieldType.long), 2, "of", [])
theorem ykX15_of : YK yX15_of mX15_of 1 := ⟨q586, q162, ⟨by decide, by decide⟩, by decide +kernel, Nat.le_of_ble_eq_true rfl, by decide, rfl, rfl⟩
theorem fk_x_139 : FOK "MissCurves$Of" 13 [15] 0 isI := FOK.one (by decide) rfl (Nat.le_of_ble_eq_true rfl) (Or.inl ⟨_, q1289, Or.inl rfl⟩) rfl
theorem fk_x_140 : FOK "MissCurves$Of" 1 [15] 2 isR := FOK.one (by decide) rfl (Nat.le_of_ble_eq_true rfl) (Or.inl ⟨_, q1291, Or.inl rfl⟩) rfl
theorem fk_x_141 : FOK "MissCurves$Of" 17 [15] 1 isI := FOK.one (by decide) rfl (Nat.le_of_ble_eq_true rfl) (Or.inl ⟨_, q1290, Or.inl rfl⟩) rfl
theorem fk_x_142 : FOK "MissCurves$Of" 34 [3] 5 isI := FOK.one (by decide) rfl (Nat.le_of_ble_eq_true rfl) (Or.inr ⟨_, q246⟩) rfl
theorem fk_x_143 : FOK "MissCurves$Of" 28 [3] 1 isR := FOK.one (by decide) rfl (Nat.le_of_ble_eq_true rfl) (Or.inr ⟨_, q238⟩) rfl
def X15_of (l0 : Option Nat) (l1 : Option Nat) (σ : Hp) : Option (Int64 × Hp) :=
  (gI σ l0 [15] 0).bind fun v1 =>
  if v1 = (3 : Int32) then
    (gR σ l0 [15] 2).bind fun v8 =>
    (gI σ l0 [15] 1).bind fun v9 =>
    (cT σ v8 0).bind fun b11 =>
    (X0_book v8 v9 σ).bind fun q10 =>
    (gR q10.2 q10.1 [3] 1).bind fun v12 =>
    (aI 0 q10.2 v12 (0 : Int32)).bind fun v13 =>
    some (v13.toInt64, q10.2)
  else
    (gR σ l0 [15] 2).bind fun v3 =>
    (gI σ l0 [15] 1).bind fun v4 =>
    (cT σ v3 0).bind fun b6 =>
    (X0_book v3 v4 σ).bind fun q5 =>
    (gI q5.2 q5.1 [3] 5).bind fun v7 =>
    some (v7.toInt64, q5.2)
set_option maxHeartbeats 4000000 in
theorem sX15_of {γ : GP} (hγ : GOK γ) (l0 : Option Nat) (l1 : Option Nat) (σ : Hp) (q : (Int64 × Hp)) (h : X15_of l0 l1 σ = some q) : Rn γ mX15_of yX15_of [va_rf l0, va_rf l1] (σ, .inr (some (.long q.1)), q.2) := by
  refine J_m hγ ykX15_of rfl [(1, va_rf l0), (1, va_rf l1)] (cats_r (cats_r cats_nil)) (Nat.le_of_ble_eq_true rfl) ?_
  show J γ mX15_of _ σ 0 [(0, 1, va_rf l0), (1, 1, va_rf l1)] []
  unfold X15_of at h
  refine J_aload_n (i := 0) 0 1 dX15_of_0 rfl rfl rfl ?_
  obtain ⟨v1, hv1, h⟩ := some_of_bind h
  refine J_gI 4 dX15_of_1 rfl fk_x_139 hv1 ?_
  refine J_ic 5 dX15_of_4 rfl (3 : Int32) kic_3 ?_
  refine J_icmp_ne 28 8 dX15_of_5 (by decide) rfl (fun c2 => ?_) (fun c2 => ?_)
  · rw [if_neg c2] at h
    refine J_aload_n (i := 0) 0 29 dX15_of_28 rfl rfl rfl ?_
    obtain ⟨v3, hv3, h⟩ := some_of_bind h
    refine J_gR 32 dX15_of_29 rfl fk_x_140 hv3 ?_
    refine J_aload_n (i := 0) 0 33 dX15_of_32 rfl rfl rfl ?_
    obtain ⟨v4, hv4, h⟩ := some_of_bind h
    refine J_gI 36 dX15_of_33 rfl fk_x_141 hv4 ?_
    obtain ⟨b6, hb6, h⟩ := some_of_bind h
    obtain ⟨q5, hq5, h⟩ := some_of_bind h
    refine J_cVr 39 dX15_of_36 rfl ykX0_book (Or.inr ⟨_, q587⟩) q497 qs1 (Nat.le_of_ble_eq_true rfl) cs_nil (by decide) [.int v4] hb6 (by decide) rfl rfl rfl (sX0_book hγ v3 v4 σ q5 hq5) ?_
    obtain ⟨v7, hv7, h⟩ := some_of_bind h
    refine J_gI 42 dX15_of_39 rfl fk_x_142 hv7 ?_
    refine J_i2l 43 dX15_of_42 rfl ?_
    exact J_lret rfl dX15_of_43 (retL h)
  · rw [if_pos c2] at h
    refine J_aload_n (i := 0) 0 9 dX15_of_8 rfl rfl rfl ?_
    obtain ⟨v8, hv8, h⟩ := some_of_bind h
    refine J_gR 12 dX15_of_9 rfl fk_x_140 hv8 ?_
    refine J_aload_n (i := 0) 0 13 dX15_of_12 rfl rfl rfl ?_
    obtain ⟨v9, hv9, h⟩ := some_of_bind h
    refine J_gI 16 dX15_of_13 rfl fk_x_141 hv9 ?_
    obtain ⟨b11, hb11, h⟩ := some_of_bind h
    obtain ⟨q10, hq10, h⟩ := some_of_bind h
    refine J_cVr 19 dX15_of_16 rfl ykX0_book (Or.inr ⟨_, q587⟩) q497 qs1 (Nat.le_of_ble_eq_true rfl) cs_nil (by decide) [.int v9] hb11 (by decide) rfl rfl rfl (sX0_book hγ v8 v9 σ q10 hq10) ?_
    obtain ⟨v12, hv12, h⟩ := some_of_bind h
    refine J_gR 22 dX15_of_19 rfl fk_x_143 hv12 ?_
    refine J_ic 23 dX15_of_22 rfl (0 : Int32) kic_0 ?_
    obtain ⟨v13, hv13, h⟩ := some_of_bind h
    refine J_iald 24 dX15_of_23 rfl hv13 ?_
    refine J_i2l 25 dX15_of_24 rfl ?_
    refine J_goto 43 dX15_of_25 (by decide) ?_
    exact J_lret rfl dX15_of_43 (retL h)
abbrev mX16_of (d : Nat) : MP := (cX16_of, "MissCurves$Joined", 6, (Option.some FieldType.long), 3 + d + 1, "of", [])
theorem ykX16_of (d : Nat) : YK yX16_of (mX16_of d) 1 := ⟨q583, q163, ⟨by decide, by decide⟩, by decide +kernel, Nat.le_of_ble_eq_true rfl, by decide, rfl, rfl⟩
theorem pk_x_144 {nm9 : String} : POK "MissCurves$Joined" nm9 24 [5] 1 .boolean := POK.one (by decide) rfl (Nat.le_of_ble_eq_true rfl) (Or.inr ⟨_, q354⟩) rfl (by decide +kernel) (Or.inl rfl)
theorem fk_x_145 : FOK "MissCurves$Joined" 13 [16] 2 isI := FOK.one (by decide) rfl (Nat.le_of_ble_eq_true rfl) (Or.inl ⟨_, q1313, Or.inl rfl⟩) rfl
theorem fk_x_146 : FOK "MissCurves$Joined" 24 [5] 1 isI := FOK.one (by decide) rfl (Nat.le_of_ble_eq_true rfl) (Or.inr ⟨_, q354⟩) rfl
theorem fk_x_147 : FOK "MissCurves$Joined" 7 [16] 0 isR := FOK.one (by decide) rfl (Nat.le_of_ble_eq_true rfl) (Or.inl ⟨_, q1311, Or.inl rfl⟩) rfl
theorem fk_x_148 : FOK "MissCurves$Joined" 17 [16] 1 isR := FOK.one (by decide) rfl (Nat.le_of_ble_eq_true rfl) (Or.inl ⟨_, q1312, Or.inl rfl⟩) rfl
def X16_of_c70 (rec : Option Nat → Option Nat → Hp → Option (Int64 × Hp))  (l0 : Option Nat) (l2 : Int64) (l4 : Int64) (s0 : Option Nat) (s1 : Int32) (σ : Hp) : Option (Int64 × Hp) :=
  (pZ σ s0 [5] 1 s1).bind fun σ1 =>
  if (lg_cmp l4 (0 : Int64)) = 0 then
    some ((0 : Int64), σ1)
  else
    (gI σ1 l0 [16] 2).bind fun v3 =>
    if v3 = (47 : Int32) then
      if l4 = 0 then none else
      some ((l2 / l4), σ1)
    else
      if l4 = 0 then none else
      some ((lrm l2 l4), σ1)
set_option maxHeartbeats 4000000 in
theorem jX16_of_c70 {γ : GP} {σ0 : Hp} {q : (Int64 × Hp)} (hγ : GOK γ) {d : Nat} (rec : Option Nat → Option Nat → Hp → Option (Int64 × Hp)) (hrec : ∀ (x0 : Option Nat) (x1 : Option Nat) (σ : Hp) (q : (Int64 × Hp)), rec x0 x1 σ = some q → UR γ (3 + d) ({ cls := "MissCurves$Sum", name := "of", desc := "(LMissCurves$Asked;)J" } : MethodName) 1 x0 [va_rf x1] (σ, .inr (some (.long q.1)), q.2)) (l0 : Option Nat) (l2 : Int64) (l4 : Int64)  (s0 : Option Nat) (s1 : Int32) (σ : Hp) (h : X16_of_c70 rec l0 l2 l4 s0 s1 σ = some q) : J γ (mX16_of d) (σ0, .inr (some (.long q.1)), q.2) σ 70 [(0, 1, va_rf l0), (2, 2, .long l2), (4, 2, .long l4)] [.int s1, va_rf s0] := by
  unfold X16_of_c70 at h
  obtain ⟨σ1, hσ1, h⟩ := some_of_bind h
  refine J_pZ 73 dX16_of_70 rfl pk_x_144 hσ1 ?_
  refine J_lload (i := 4) 2 75 dX16_of_73 rfl rfl ?_
  refine J_lconst 76 dX16_of_75 rfl (0 : Int64) rfl ?_
  refine J_lcmp 77 dX16_of_76 rfl ?_
  refine J_if_ne 84 80 dX16_of_77 (by decide) rfl (fun c2 => ?_) (fun c2 => ?_)
  · rw [if_neg c2] at h
    refine J_aload_n (i := 0) 0 85 dX16_of_84 rfl rfl rfl ?_
    obtain ⟨v3, hv3, h⟩ := some_of_bind h
    refine J_gI 88 dX16_of_85 rfl fk_x_145 hv3 ?_
    refine J_bipush 90 dX16_of_88 rfl (47 : Int32) kbp_47 ?_
    refine J_icmp_ne 100 93 dX16_of_90 (by decide) rfl (fun c4 => ?_) (fun c4 => ?_)
    · rw [if_neg c4] at h
      refine J_lload_n (i := 2) 1 101 dX16_of_100 rfl rfl rfl ?_
      refine J_lload (i := 4) 2 103 dX16_of_101 rfl rfl ?_
      rcases Classical.em (l4 = 0) with c5 | c5
      · rw [if_pos c5] at h; cases h
      · rw [if_neg c5] at h
        refine J_lrem 104 dX16_of_103 rfl c5 ?_
        exact J_lret rfl dX16_of_104 (retL h)
    · rw [if_pos c4] at h
      refine J_lload_n (i := 2) 1 94 dX16_of_93 rfl rfl rfl ?_
      refine J_lload (i := 4) 2 96 dX16_of_94 rfl rfl ?_
      rcases Classical.em (l4 = 0) with c6 | c6
      · rw [if_pos c6] at h; cases h
      · rw [if_neg c6] at h
        refine J_ldiv 97 dX16_of_96 rfl c6 ?_
        refine J_goto 104 dX16_of_97 (by decide) ?_
        exact J_lret rfl dX16_of_104 (retL h)
  · rw [if_pos c2] at h
    refine J_lconst 81 dX16_of_80 rfl (0 : Int64) rfl ?_
    refine J_goto 104 dX16_of_81 (by decide) ?_
    exact J_lret rfl dX16_of_104 (retL h)
def X16_of_c57 (rec : Option Nat → Option Nat → Hp → Option (Int64 × Hp))  (l0 : Option Nat) (l1 : Option Nat) (l2 : Int64) (l4 : Int64)  (σ : Hp) : Option (Int64 × Hp) :=
  if (lg_cmp l4 (0 : Int64)) = 0 then
    X16_of_c70 rec  l0 l2 l4 l1 (1 : Int32) σ
  else
    X16_of_c70 rec  l0 l2 l4 l1 (0 : Int32) σ
set_option maxHeartbeats 4000000 in
theorem jX16_of_c57 {γ : GP} {σ0 : Hp} {q : (Int64 × Hp)} (hγ : GOK γ) {d : Nat} (rec : Option Nat → Option Nat → Hp → Option (Int64 × Hp)) (hrec : ∀ (x0 : Option Nat) (x1 : Option Nat) (σ : Hp) (q : (Int64 × Hp)), rec x0 x1 σ = some q → UR γ (3 + d) ({ cls := "MissCurves$Sum", name := "of", desc := "(LMissCurves$Asked;)J" } : MethodName) 1 x0 [va_rf x1] (σ, .inr (some (.long q.1)), q.2)) (l0 : Option Nat) (l1 : Option Nat) (l2 : Int64) (l4 : Int64)   (σ : Hp) (h : X16_of_c57 rec l0 l1 l2 l4 σ = some q) : J γ (mX16_of d) (σ0, .inr (some (.long q.1)), q.2) σ 57 [(0, 1, va_rf l0), (1, 1, va_rf l1), (2, 2, .long l2), (4, 2, .long l4)] [] := by
  unfold X16_of_c57 at h
  refine J_aload_n (i := 1) 1 58 dX16_of_57 rfl rfl rfl ?_
  refine J_lload (i := 4) 3 60 dX16_of_58 rfl rfl ?_
  refine J_lconst 61 dX16_of_60 rfl (0 : Int64) rfl ?_
  refine J_lcmp 62 dX16_of_61 rfl ?_
  refine J_if_ne 69 65 dX16_of_62 (by decide) rfl (fun c1 => ?_) (fun c1 => ?_)
  · rw [if_neg c1] at h
    refine J_ic 70 dX16_of_69 rfl (0 : Int32) kic_0 ?_
    refine J.pick [0, 2, 3] rfl ?_
    exact jX16_of_c70 hγ rec hrec l0 l2 l4 l1 (0 : Int32) σ h
  · rw [if_pos c1] at h
    refine J_ic 66 dX16_of_65 rfl (1 : Int32) kic_1 ?_
    refine J_goto 70 dX16_of_66 (by decide) ?_
    refine J.pick [0, 2, 3] rfl ?_
    exact jX16_of_c70 hγ rec hrec l0 l2 l4 l1 (1 : Int32) σ h
def X16_of_c142 (rec : Option Nat → Option Nat → Hp → Option (Int64 × Hp))   (s0 : Option Nat) (s1 : Int64) (σ : Hp) : Option (Int64 × Hp) :=
  (cT σ s0 5).bind fun b2 =>
  (X5_within s0 s1 σ).bind fun q1 =>
  some (q1.1, q1.2)
set_option maxHeartbeats 4000000 in
theorem jX16_of_c142 {γ : GP} {σ0 : Hp} {q : (Int64 × Hp)} (hγ : GOK γ) {d : Nat} (rec : Option Nat → Option Nat → Hp → Option (Int64 × Hp)) (hrec : ∀ (x0 : Option Nat) (x1 : Option Nat) (σ : Hp) (q : (Int64 × Hp)), rec x0 x1 σ = some q → UR γ (3 + d) ({ cls := "MissCurves$Sum", name := "of", desc := "(LMissCurves$Asked;)J" } : MethodName) 1 x0 [va_rf x1] (σ, .inr (some (.long q.1)), q.2))   (s0 : Option Nat) (s1 : Int64) (σ : Hp) (h : X16_of_c142 rec s0 s1 σ = some q) : J γ (mX16_of d) (σ0, .inr (some (.long q.1)), q.2) σ 142 [] [.long s1, va_rf s0] := by
  unfold X16_of_c142 at h
  obtain ⟨b2, hb2, h⟩ := some_of_bind h
  obtain ⟨q1, hq1, h⟩ := some_of_bind h
  refine J_cVl 145 dX16_of_142 rfl ykX5_within (Or.inl q590) q591 q592 (show (0) + 1 ≤ 3 + d + 1 by omega) cs_nil (by decide) [.long s1] hb2 (by decide) rfl rfl rfl (sX5_within hγ s0 s1 σ q1 hq1) ?_
  exact J_lret rfl dX16_of_145 (retL h)
def X16_of_c28 (rec : Option Nat → Option Nat → Hp → Option (Int64 × Hp))  (l0 : Option Nat) (l1 : Option Nat) (l2 : Int64) (s0 : Int64) (σ : Hp) : Option (Int64 × Hp) :=
  (gI σ l1 [5] 1).bind fun v1 =>
  if v1 = 0 then
    (gI σ l0 [16] 2).bind fun v3 =>
    if v3 = (47 : Int32) then
      X16_of_c57 rec  l0 l1 l2 s0  σ
    else
      (gI σ l0 [16] 2).bind fun v5 =>
      if v5 = (37 : Int32) then
        X16_of_c57 rec  l0 l1 l2 s0  σ
      else
        (gI σ l0 [16] 2).bind fun v7 =>
        if v7 = (43 : Int32) then
          X16_of_c142 rec   l1 (l2 + s0) σ
        else
          (gI σ l0 [16] 2).bind fun v9 =>
          if v9 = (45 : Int32) then
            X16_of_c142 rec   l1 (l2 - s0) σ
          else
            X16_of_c142 rec   l1 (l2 * s0) σ
  else
    some ((0 : Int64), σ)
set_option maxHeartbeats 4000000 in
theorem jX16_of_c28 {γ : GP} {σ0 : Hp} {q : (Int64 × Hp)} (hγ : GOK γ) {d : Nat} (rec : Option Nat → Option Nat → Hp → Option (Int64 × Hp)) (hrec : ∀ (x0 : Option Nat) (x1 : Option Nat) (σ : Hp) (q : (Int64 × Hp)), rec x0 x1 σ = some q → UR γ (3 + d) ({ cls := "MissCurves$Sum", name := "of", desc := "(LMissCurves$Asked;)J" } : MethodName) 1 x0 [va_rf x1] (σ, .inr (some (.long q.1)), q.2)) (l0 : Option Nat) (l1 : Option Nat) (l2 : Int64)  (s0 : Int64) (σ : Hp) (h : X16_of_c28 rec l0 l1 l2 s0 σ = some q) : J γ (mX16_of d) (σ0, .inr (some (.long q.1)), q.2) σ 28 [(0, 1, va_rf l0), (1, 1, va_rf l1), (2, 2, .long l2)] [.long s0] := by
  unfold X16_of_c28 at h
  refine J_lstore (i := 4) 30 [(4, 2, .long s0), (0, 1, va_rf l0), (1, 1, va_rf l1), (2, 2, .long l2)] dX16_of_28 rfl (Nat.le_of_ble_eq_true rfl) rfl ?_
  refine J_aload_n (i := 1) 2 31 dX16_of_30 rfl rfl rfl ?_
  obtain ⟨v1, hv1, h⟩ := some_of_bind h
  refine J_gI 34 dX16_of_31 rfl fk_x_146 hv1 ?_
  refine J_if_eq 39 37 dX16_of_34 (by decide) rfl (fun c2 => ?_) (fun c2 => ?_)
  · rw [if_pos c2] at h
    refine J_aload_n (i := 0) 1 40 dX16_of_39 rfl rfl rfl ?_
    obtain ⟨v3, hv3, h⟩ := some_of_bind h
    refine J_gI 43 dX16_of_40 rfl fk_x_145 hv3 ?_
    refine J_bipush 45 dX16_of_43 rfl (47 : Int32) kbp_47 ?_
    refine J_icmp_eq 57 48 dX16_of_45 (by decide) rfl (fun c4 => ?_) (fun c4 => ?_)
    · rw [if_pos c4] at h
      refine J.pick [1, 2, 3, 0] rfl ?_
      exact jX16_of_c57 hγ rec hrec l0 l1 l2 s0  σ h
    · rw [if_neg c4] at h
      refine J_aload_n (i := 0) 1 49 dX16_of_48 rfl rfl rfl ?_
      obtain ⟨v5, hv5, h⟩ := some_of_bind h
      refine J_gI 52 dX16_of_49 rfl fk_x_145 hv5 ?_
      refine J_bipush 54 dX16_of_52 rfl (37 : Int32) kbp_37 ?_
      refine J_icmp_ne 105 57 dX16_of_54 (by decide) rfl (fun c6 => ?_) (fun c6 => ?_)
      · rw [if_neg c6] at h
        refine J_aload_n (i := 1) 2 106 dX16_of_105 rfl rfl rfl ?_
        refine J_aload_n (i := 0) 1 107 dX16_of_106 rfl rfl rfl ?_
        obtain ⟨v7, hv7, h⟩ := some_of_bind h
        refine J_gI 110 dX16_of_107 rfl fk_x_145 hv7 ?_
        refine J_bipush 112 dX16_of_110 rfl (43 : Int32) kbp_43 ?_
        refine J_icmp_ne 122 115 dX16_of_112 (by decide) rfl (fun c8 => ?_) (fun c8 => ?_)
        · rw [if_neg c8] at h
          refine J_aload_n (i := 0) 1 123 dX16_of_122 rfl rfl rfl ?_
          obtain ⟨v9, hv9, h⟩ := some_of_bind h
          refine J_gI 126 dX16_of_123 rfl fk_x_145 hv9 ?_
          refine J_bipush 128 dX16_of_126 rfl (45 : Int32) kbp_45 ?_
          refine J_icmp_ne 138 131 dX16_of_128 (by decide) rfl (fun c10 => ?_) (fun c10 => ?_)
          · rw [if_neg c10] at h
            refine J_lload_n (i := 2) 3 139 dX16_of_138 rfl rfl rfl ?_
            refine J_lload (i := 4) 0 141 dX16_of_139 rfl rfl ?_
            refine J_lmul 142 dX16_of_141 rfl ?_
            refine J.pick [] rfl ?_
            exact jX16_of_c142 hγ rec hrec  l1 (l2 * s0) σ h
          · rw [if_pos c10] at h
            refine J_lload_n (i := 2) 3 132 dX16_of_131 rfl rfl rfl ?_
            refine J_lload (i := 4) 0 134 dX16_of_132 rfl rfl ?_
            refine J_lsub 135 dX16_of_134 rfl ?_
            refine J_goto 142 dX16_of_135 (by decide) ?_
            refine J.pick [] rfl ?_
            exact jX16_of_c142 hγ rec hrec  l1 (l2 - s0) σ h
        · rw [if_pos c8] at h
          refine J_lload_n (i := 2) 3 116 dX16_of_115 rfl rfl rfl ?_
          refine J_lload (i := 4) 0 118 dX16_of_116 rfl rfl ?_
          refine J_ladd 119 dX16_of_118 rfl ?_
          refine J_goto 142 dX16_of_119 (by decide) ?_
          refine J.pick [] rfl ?_
          exact jX16_of_c142 hγ rec hrec  l1 (l2 + s0) σ h
      · rw [if_pos c6] at h
        refine J.pick [1, 2, 3, 0] rfl ?_
        exact jX16_of_c57 hγ rec hrec l0 l1 l2 s0  σ h
  · rw [if_neg c2] at h
    refine J_lconst 38 dX16_of_37 rfl (0 : Int64) rfl ?_
    exact J_lret rfl dX16_of_38 (retL h)
def X16_of (rec : Option Nat → Option Nat → Hp → Option (Int64 × Hp)) (l0 : Option Nat) (l1 : Option Nat) (σ : Hp) : Option (Int64 × Hp) :=
  (gR σ l0 [16] 0).bind fun v1 =>
  (rec v1 l1 σ).bind fun q2 =>
  (gI q2.2 l1 [5] 1).bind fun v3 =>
  if v3 = 0 then
    (gR q2.2 l0 [16] 1).bind fun v5 =>
    (rec v5 l1 q2.2).bind fun q6 =>
    X16_of_c28 rec  l0 l1 q2.1 q6.1 q6.2
  else
    X16_of_c28 rec  l0 l1 q2.1 (0 : Int64) q2.2
set_option maxHeartbeats 4000000 in
theorem sX16_of {γ : GP} (hγ : GOK γ) {d : Nat} (rec : Option Nat → Option Nat → Hp → Option (Int64 × Hp)) (hrec : ∀ (x0 : Option Nat) (x1 : Option Nat) (σ : Hp) (q : (Int64 × Hp)), rec x0 x1 σ = some q → UR γ (3 + d) ({ cls := "MissCurves$Sum", name := "of", desc := "(LMissCurves$Asked;)J" } : MethodName) 1 x0 [va_rf x1] (σ, .inr (some (.long q.1)), q.2)) (l0 : Option Nat) (l1 : Option Nat) (σ : Hp) (q : (Int64 × Hp)) (h : X16_of rec l0 l1 σ = some q) : Rn γ (mX16_of d) yX16_of [va_rf l0, va_rf l1] (σ, .inr (some (.long q.1)), q.2) := by
  refine J_m hγ (ykX16_of d) rfl [(1, va_rf l0), (1, va_rf l1)] (cats_r (cats_r cats_nil)) (Nat.le_of_ble_eq_true rfl) ?_
  show J γ (mX16_of d) _ σ 0 [(0, 1, va_rf l0), (1, 1, va_rf l1)] []
  unfold X16_of at h
  refine J_aload_n (i := 0) 0 1 dX16_of_0 rfl rfl rfl ?_
  obtain ⟨v1, hv1, h⟩ := some_of_bind h
  refine J_gR 4 dX16_of_1 rfl fk_x_147 hv1 ?_
  refine J_aload_n (i := 1) 1 5 dX16_of_4 rfl rfl rfl ?_
  obtain ⟨q2, hq2, h⟩ := some_of_bind h
  refine J_cUl (na := 1) 8 dX16_of_5 rfl q584 q577 q576 ⟨by decide, by decide, by decide +kernel⟩ (show (3 + d) + 1 ≤ 3 + d + 1 by omega) cs_nil (by decide) [va_rf l1] rfl rfl (hrec v1 l1 σ q2 hq2) ?_
  refine J_lstore_n (i := 2) 9 [(2, 2, .long q2.1), (0, 1, va_rf l0), (1, 1, va_rf l1)] dX16_of_8 rfl rfl (Nat.le_of_ble_eq_true rfl) rfl ?_
  refine J_aload_n (i := 1) 2 10 dX16_of_9 rfl rfl rfl ?_
  obtain ⟨v3, hv3, h⟩ := some_of_bind h
  refine J_gI 13 dX16_of_10 rfl fk_x_146 hv3 ?_
  refine J_if_eq 20 16 dX16_of_13 (by decide) rfl (fun c4 => ?_) (fun c4 => ?_)
  · rw [if_pos c4] at h
    refine J_aload_n (i := 0) 1 21 dX16_of_20 rfl rfl rfl ?_
    obtain ⟨v5, hv5, h⟩ := some_of_bind h
    refine J_gR 24 dX16_of_21 rfl fk_x_148 hv5 ?_
    refine J_aload_n (i := 1) 2 25 dX16_of_24 rfl rfl rfl ?_
    obtain ⟨q6, hq6, h⟩ := some_of_bind h
    refine J_cUl (na := 1) 28 dX16_of_25 rfl q584 q577 q576 ⟨by decide, by decide, by decide +kernel⟩ (show (3 + d) + 1 ≤ 3 + d + 1 by omega) cs_nil (by decide) [va_rf l1] rfl rfl (hrec v5 l1 q2.2 q6 hq6) ?_
    refine J.pick [1, 2, 0] rfl ?_
    exact jX16_of_c28 hγ rec hrec l0 l1 q2.1 q6.1 q6.2 h
  · rw [if_neg c4] at h
    refine J_lconst 17 dX16_of_16 rfl (0 : Int64) rfl ?_
    refine J_goto 28 dX16_of_17 (by decide) ?_
    refine J.pick [1, 2, 0] rfl ?_
    exact jX16_of_c28 hγ rec hrec l0 l1 q2.1 (0 : Int64) q2.2 h
def vSum : Nat → Option Nat → Option Nat → Hp → Option (Int64 × Hp)
  | 0, _, _, _ => none
  | d + 1, x0, x1, σ => x0.bind fun a => if htg σ a = 13 then X13_of x0 x1 σ else if htg σ a = 14 then X14_of x0 x1 σ else if htg σ a = 15 then X15_of x0 x1 σ else if htg σ a = 16 then X16_of (vSum d) x0 x1 σ else none
theorem svSum {γ : GP} (hγ : GOK γ) : ∀ (d : Nat) (x0 : Option Nat) (x1 : Option Nat) (σ : Hp) (q : (Int64 × Hp)), vSum d x0 x1 σ = some q → UR γ (3 + d) ({ cls := "MissCurves$Sum", name := "of", desc := "(LMissCurves$Asked;)J" } : MethodName) 1 x0 [va_rf x1] (σ, .inr (some (.long q.1)), q.2) := by
  intro d
  induction d with
  | zero => intro x0 x1 σ q h; exact nomatch (show none = some q from h)
  | succ d ih =>
    intro x0 x1 σ q h
    rw [vSum] at h
    obtain ⟨a, ha, h⟩ := some_of_bind h
    rcases Classical.em (htg σ a = 13) with c0 | c0
    · rw [if_pos c0] at h
      exact UR.of (c9 := 13) (b := a) (show cT σ x0 13 = some a by rw [ha]; exact if_pos c0) (by decide) rfl ykX13_of q578 q579 (show 0 ≤ 3 + (d + 1) by omega) (sX13_of hγ x0 x1 σ q h)
    · rw [if_neg c0] at h
      rcases Classical.em (htg σ a = 14) with c1 | c1
      · rw [if_pos c1] at h
        exact UR.of (c9 := 14) (b := a) (show cT σ x0 14 = some a by rw [ha]; exact if_pos c1) (by decide) rfl ykX14_of q597 q588 (show 0 ≤ 3 + (d + 1) by omega) (sX14_of hγ x0 x1 σ q h)
      · rw [if_neg c1] at h
        rcases Classical.em (htg σ a = 15) with c2 | c2
        · rw [if_pos c2] at h
          exact UR.of (c9 := 15) (b := a) (show cT σ x0 15 = some a by rw [ha]; exact if_pos c2) (by decide) rfl ykX15_of q596 q585 (show 2 ≤ 3 + (d + 1) by omega) (sX15_of hγ x0 x1 σ q h)
        · rw [if_neg c2] at h
          rcases Classical.em (htg σ a = 16) with c3 | c3
          · rw [if_pos c3] at h
            exact UR.of (c9 := 16) (b := a) (show cT σ x0 16 = some a by rw [ha]; exact if_pos c3) (by decide) rfl (ykX16_of d) q581 q582 (show 3 + d + 1 ≤ 3 + (d + 1) by omega) (sX16_of hγ (vSum d) ih x0 x1 σ q h)
          · rw [if_neg c3] at h
            cases h
abbrev mX19_of : MP := (cX19_of, "MissCurves$Compared", 6, (Option.some FieldType.boolean), 64, "of", [])
theorem ykX19_of : YK yX19_of mX19_of 1 := ⟨q574, q166, ⟨by decide, by decide⟩, by decide +kernel, Nat.le_of_ble_eq_true rfl, by decide, rfl, rfl⟩
theorem fk_x_149 : FOK "MissCurves$Compared" 26 [5] 1 isI := FOK.one (by decide) rfl (Nat.le_of_ble_eq_true rfl) (Or.inr ⟨_, q355⟩) rfl
theorem fk_x_150 : FOK "MissCurves$Compared" 13 [19] 2 isI := FOK.one (by decide) rfl (Nat.le_of_ble_eq_true rfl) (Or.inl ⟨_, q1361, Or.inl rfl⟩) rfl
theorem fk_x_151 : FOK "MissCurves$Compared" 7 [19] 0 isR := FOK.one (by decide) rfl (Nat.le_of_ble_eq_true rfl) (Or.inl ⟨_, q1359, Or.inl rfl⟩) rfl
theorem fk_x_152 : FOK "MissCurves$Compared" 17 [19] 1 isR := FOK.one (by decide) rfl (Nat.le_of_ble_eq_true rfl) (Or.inl ⟨_, q1360, Or.inl rfl⟩) rfl
def X19_of_c28  (l0 : Option Nat) (l1 : Option Nat) (l2 : Int64) (s0 : Int64) (σ : Hp) : Option (Int32 × Hp) :=
  (gI σ l1 [5] 1).bind fun v1 =>
  if v1 = 0 then
    (gI σ l0 [19] 2).bind fun v4 =>
    if v4 = (60 : Int32) then
      if 0 ≤ (lg_cmp l2 s0) then
        some ((0 : Int32), σ)
      else
        some ((1 : Int32), σ)
    else
      (gI σ l0 [19] 2).bind fun v6 =>
      if v6 = (62 : Int32) then
        if (lg_cmp l2 s0) ≤ 0 then
          some ((0 : Int32), σ)
        else
          some ((1 : Int32), σ)
      else
        if (lg_cmp l2 s0) = 0 then
          some ((1 : Int32), σ)
        else
          some ((0 : Int32), σ)
  else
    some ((0 : Int32), σ)
set_option maxHeartbeats 4000000 in
theorem jX19_of_c28 {γ : GP} {σ0 : Hp} {q : (Int32 × Hp)} (hγ : GOK γ) (l0 : Option Nat) (l1 : Option Nat) (l2 : Int64)  (s0 : Int64) (σ : Hp) (h : X19_of_c28 l0 l1 l2 s0 σ = some q) : J γ mX19_of (σ0, .inr (some (.int q.1)), q.2) σ 28 [(0, 1, va_rf l0), (1, 1, va_rf l1), (2, 2, .long l2)] [.long s0] := by
  unfold X19_of_c28 at h
  refine J_lstore (i := 4) 30 [(4, 2, .long s0), (0, 1, va_rf l0), (1, 1, va_rf l1), (2, 2, .long l2)] dX19_of_28 rfl (Nat.le_of_ble_eq_true rfl) rfl ?_
  refine J_aload_n (i := 1) 2 31 dX19_of_30 rfl rfl rfl ?_
  obtain ⟨v1, hv1, h⟩ := some_of_bind h
  refine J_gI 34 dX19_of_31 rfl fk_x_149 hv1 ?_
  refine J_if_ne 86 37 dX19_of_34 (by decide) rfl (fun c2 => ?_) (fun c2 => ?_)
  · rw [if_neg c2] at h
    refine J_ic 87 dX19_of_86 rfl (0 : Int32) kic_0 ?_
    exact J_zret rfl (by decide) dX19_of_87 (retI h)
  · rw [if_pos c2] at h
    refine J_aload_n (i := 0) 1 38 dX19_of_37 rfl rfl rfl ?_
    obtain ⟨v4, hv4, h⟩ := some_of_bind h
    refine J_gI 41 dX19_of_38 rfl fk_x_150 hv4 ?_
    refine J_bipush 43 dX19_of_41 rfl (60 : Int32) kbp_60 ?_
    refine J_icmp_ne 56 46 dX19_of_43 (by decide) rfl (fun c5 => ?_) (fun c5 => ?_)
    · rw [if_neg c5] at h
      refine J_aload_n (i := 0) 1 57 dX19_of_56 rfl rfl rfl ?_
      obtain ⟨v6, hv6, h⟩ := some_of_bind h
      refine J_gI 60 dX19_of_57 rfl fk_x_150 hv6 ?_
      refine J_bipush 62 dX19_of_60 rfl (62 : Int32) kbp_62 ?_
      refine J_icmp_ne 75 65 dX19_of_62 (by decide) rfl (fun c7 => ?_) (fun c7 => ?_)
      · rw [if_neg c7] at h
        refine J_lload_n (i := 2) 3 76 dX19_of_75 rfl rfl rfl ?_
        refine J_lload (i := 4) 0 78 dX19_of_76 rfl rfl ?_
        refine J_lcmp 79 dX19_of_78 rfl ?_
        refine J_if_ne 86 82 dX19_of_79 (by decide) rfl (fun c8 => ?_) (fun c8 => ?_)
        · rw [if_neg c8] at h
          refine J_ic 87 dX19_of_86 rfl (0 : Int32) kic_0 ?_
          exact J_zret rfl (by decide) dX19_of_87 (retI h)
        · rw [if_pos c8] at h
          refine J_ic 83 dX19_of_82 rfl (1 : Int32) kic_1 ?_
          refine J_goto 87 dX19_of_83 (by decide) ?_
          exact J_zret rfl (by decide) dX19_of_87 (retI h)
      · rw [if_pos c7] at h
        refine J_lload_n (i := 2) 3 66 dX19_of_65 rfl rfl rfl ?_
        refine J_lload (i := 4) 0 68 dX19_of_66 rfl rfl ?_
        refine J_lcmp 69 dX19_of_68 rfl ?_
        refine J_if_le 86 72 dX19_of_69 (by decide) rfl (fun c11 => ?_) (fun c11 => ?_)
        · rw [if_pos c11] at h
          refine J_ic 87 dX19_of_86 rfl (0 : Int32) kic_0 ?_
          exact J_zret rfl (by decide) dX19_of_87 (retI h)
        · rw [if_neg c11] at h
          refine J_goto 82 dX19_of_72 (by decide) ?_
          refine J_ic 83 dX19_of_82 rfl (1 : Int32) kic_1 ?_
          refine J_goto 87 dX19_of_83 (by decide) ?_
          exact J_zret rfl (by decide) dX19_of_87 (retI h)
    · rw [if_pos c5] at h
      refine J_lload_n (i := 2) 3 47 dX19_of_46 rfl rfl rfl ?_
      refine J_lload (i := 4) 0 49 dX19_of_47 rfl rfl ?_
      refine J_lcmp 50 dX19_of_49 rfl ?_
      refine J_if_ge 86 53 dX19_of_50 (by decide) rfl (fun c14 => ?_) (fun c14 => ?_)
      · rw [if_pos c14] at h
        refine J_ic 87 dX19_of_86 rfl (0 : Int32) kic_0 ?_
        exact J_zret rfl (by decide) dX19_of_87 (retI h)
      · rw [if_neg c14] at h
        refine J_goto 82 dX19_of_53 (by decide) ?_
        refine J_ic 83 dX19_of_82 rfl (1 : Int32) kic_1 ?_
        refine J_goto 87 dX19_of_83 (by decide) ?_
        exact J_zret rfl (by decide) dX19_of_87 (retI h)
def X19_of (l0 : Option Nat) (l1 : Option Nat) (σ : Hp) : Option (Int32 × Hp) :=
  (gR σ l0 [19] 0).bind fun v1 =>
  (vSum 60 v1 l1 σ).bind fun q2 =>
  (gI q2.2 l1 [5] 1).bind fun v3 =>
  if v3 = 0 then
    (gR q2.2 l0 [19] 1).bind fun v5 =>
    (vSum 60 v5 l1 q2.2).bind fun q6 =>
    X19_of_c28  l0 l1 q2.1 q6.1 q6.2
  else
    X19_of_c28  l0 l1 q2.1 (0 : Int64) q2.2
set_option maxHeartbeats 4000000 in
theorem sX19_of {γ : GP} (hγ : GOK γ) (l0 : Option Nat) (l1 : Option Nat) (σ : Hp) (q : (Int32 × Hp)) (h : X19_of l0 l1 σ = some q) : Rn γ mX19_of yX19_of [va_rf l0, va_rf l1] (σ, .inr (some (.int q.1)), q.2) := by
  refine J_m hγ ykX19_of rfl [(1, va_rf l0), (1, va_rf l1)] (cats_r (cats_r cats_nil)) (Nat.le_of_ble_eq_true rfl) ?_
  show J γ mX19_of _ σ 0 [(0, 1, va_rf l0), (1, 1, va_rf l1)] []
  unfold X19_of at h
  refine J_aload_n (i := 0) 0 1 dX19_of_0 rfl rfl rfl ?_
  obtain ⟨v1, hv1, h⟩ := some_of_bind h
  refine J_gR 4 dX19_of_1 rfl fk_x_151 hv1 ?_
  refine J_aload_n (i := 1) 1 5 dX19_of_4 rfl rfl rfl ?_
  obtain ⟨q2, hq2, h⟩ := some_of_bind h
  refine J_cUl (na := 1) 8 dX19_of_5 rfl q575 q577 q576 ⟨by decide, by decide, by decide +kernel⟩ (show (3 + 60) + 1 ≤ 64 by omega) cs_nil (by decide) [va_rf l1] rfl rfl (svSum hγ 60 v1 l1 σ q2 hq2) ?_
  refine J_lstore_n (i := 2) 9 [(2, 2, .long q2.1), (0, 1, va_rf l0), (1, 1, va_rf l1)] dX19_of_8 rfl rfl (Nat.le_of_ble_eq_true rfl) rfl ?_
  refine J_aload_n (i := 1) 2 10 dX19_of_9 rfl rfl rfl ?_
  obtain ⟨v3, hv3, h⟩ := some_of_bind h
  refine J_gI 13 dX19_of_10 rfl fk_x_149 hv3 ?_
  refine J_if_eq 20 16 dX19_of_13 (by decide) rfl (fun c4 => ?_) (fun c4 => ?_)
  · rw [if_pos c4] at h
    refine J_aload_n (i := 0) 1 21 dX19_of_20 rfl rfl rfl ?_
    obtain ⟨v5, hv5, h⟩ := some_of_bind h
    refine J_gR 24 dX19_of_21 rfl fk_x_152 hv5 ?_
    refine J_aload_n (i := 1) 2 25 dX19_of_24 rfl rfl rfl ?_
    obtain ⟨q6, hq6, h⟩ := some_of_bind h
    refine J_cUl (na := 1) 28 dX19_of_25 rfl q575 q577 q576 ⟨by decide, by decide, by decide +kernel⟩ (show (3 + 60) + 1 ≤ 64 by omega) cs_nil (by decide) [va_rf l1] rfl rfl (svSum hγ 60 v5 l1 q2.2 q6 hq6) ?_
    refine J.pick [1, 2, 0] rfl ?_
    exact jX19_of_c28 hγ l0 l1 q2.1 q6.1 q6.2 h
  · rw [if_neg c4] at h
    refine J_lconst 17 dX19_of_16 rfl (0 : Int64) rfl ?_
    refine J_goto 28 dX19_of_17 (by decide) ?_
    refine J.pick [1, 2, 0] rfl ?_
    exact jX19_of_c28 hγ l0 l1 q2.1 (0 : Int64) q2.2 h
abbrev mX20_of (d : Nat) : MP := (cX20_of, "MissCurves$Not", 2, (Option.some FieldType.boolean), 65 + d + 1, "of", [])
theorem ykX20_of (d : Nat) : YK yX20_of (mX20_of d) 1 := ⟨q600, q167, ⟨by decide, by decide⟩, by decide +kernel, Nat.le_of_ble_eq_true rfl, by decide, rfl, rfl⟩
theorem fk_x_153 : FOK "MissCurves$Not" 7 [20] 0 isR := FOK.one (by decide) rfl (Nat.le_of_ble_eq_true rfl) (Or.inl ⟨_, q1375, Or.inl rfl⟩) rfl
theorem fk_x_154 : FOK "MissCurves$Not" 17 [5] 1 isI := FOK.one (by decide) rfl (Nat.le_of_ble_eq_true rfl) (Or.inr ⟨_, q356⟩) rfl
def X20_of (rec : Option Nat → Option Nat → Hp → Option (Int32 × Hp)) (l0 : Option Nat) (l1 : Option Nat) (σ : Hp) : Option (Int32 × Hp) :=
  (gR σ l0 [20] 0).bind fun v1 =>
  (rec v1 l1 σ).bind fun q2 =>
  if q2.1 = 0 then
    (gI q2.2 l1 [5] 1).bind fun v5 =>
    if v5 = 0 then
      some ((1 : Int32), q2.2)
    else
      some ((0 : Int32), q2.2)
  else
    some ((0 : Int32), q2.2)
set_option maxHeartbeats 4000000 in
theorem sX20_of {γ : GP} (hγ : GOK γ) {d : Nat} (rec : Option Nat → Option Nat → Hp → Option (Int32 × Hp)) (hrec : ∀ (x0 : Option Nat) (x1 : Option Nat) (σ : Hp) (q : (Int32 × Hp)), rec x0 x1 σ = some q → UR γ (65 + d) ({ cls := "MissCurves$Test", name := "of", desc := "(LMissCurves$Asked;)Z" } : MethodName) 1 x0 [va_rf x1] (σ, .inr (some (.int q.1)), q.2)) (l0 : Option Nat) (l1 : Option Nat) (σ : Hp) (q : (Int32 × Hp)) (h : X20_of rec l0 l1 σ = some q) : Rn γ (mX20_of d) yX20_of [va_rf l0, va_rf l1] (σ, .inr (some (.int q.1)), q.2) := by
  refine J_m hγ (ykX20_of d) rfl [(1, va_rf l0), (1, va_rf l1)] (cats_r (cats_r cats_nil)) (Nat.le_of_ble_eq_true rfl) ?_
  show J γ (mX20_of d) _ σ 0 [(0, 1, va_rf l0), (1, 1, va_rf l1)] []
  unfold X20_of at h
  refine J_aload_n (i := 0) 0 1 dX20_of_0 rfl rfl rfl ?_
  obtain ⟨v1, hv1, h⟩ := some_of_bind h
  refine J_gR 4 dX20_of_1 rfl fk_x_153 hv1 ?_
  refine J_aload_n (i := 1) 1 5 dX20_of_4 rfl rfl rfl ?_
  obtain ⟨q2, hq2, h⟩ := some_of_bind h
  refine J_cUi (na := 1) 8 dX20_of_5 rfl q601 q571 q570 ⟨by decide, by decide, by decide +kernel⟩ (show (65 + d) + 1 ≤ 65 + d + 1 by omega) cs_nil (by decide) [va_rf l1] rfl rfl (hrec v1 l1 σ q2 hq2) ?_
  refine J_if_ne 22 11 dX20_of_8 (by decide) rfl (fun c3 => ?_) (fun c3 => ?_)
  · rw [if_neg c3] at h
    refine J_ic 23 dX20_of_22 rfl (0 : Int32) kic_0 ?_
    exact J_zret rfl (by decide) dX20_of_23 (retI h)
  · rw [if_pos c3] at h
    refine J_aload_n (i := 1) 1 12 dX20_of_11 rfl rfl rfl ?_
    obtain ⟨v5, hv5, h⟩ := some_of_bind h
    refine J_gI 15 dX20_of_12 rfl fk_x_154 hv5 ?_
    refine J_if_ne 22 18 dX20_of_15 (by decide) rfl (fun c6 => ?_) (fun c6 => ?_)
    · rw [if_neg c6] at h
      refine J_ic 23 dX20_of_22 rfl (0 : Int32) kic_0 ?_
      exact J_zret rfl (by decide) dX20_of_23 (retI h)
    · rw [if_pos c6] at h
      refine J_ic 19 dX20_of_18 rfl (1 : Int32) kic_1 ?_
      refine J_goto 23 dX20_of_19 (by decide) ?_
      exact J_zret rfl (by decide) dX20_of_23 (retI h)
abbrev mX21_of (d : Nat) : MP := (cX21_of, "MissCurves$Row", 7, (Option.some FieldType.boolean), 65 + d + 1, "of", [])
theorem ykX21_of (d : Nat) : YK yX21_of (mX21_of d) 1 := ⟨q603, q168, ⟨by decide, by decide⟩, by decide +kernel, Nat.le_of_ble_eq_true rfl, by decide, rfl, rfl⟩
theorem fk_x_155 : FOK "MissCurves$Row" 21 [5] 1 isI := FOK.one (by decide) rfl (Nat.le_of_ble_eq_true rfl) (Or.inr ⟨_, q357⟩) rfl
theorem fk_x_156 : FOK "MissCurves$Row" 7 [21] 0 isI := FOK.one (by decide) rfl (Nat.le_of_ble_eq_true rfl) (Or.inl ⟨_, q1395, Or.inl rfl⟩) rfl
theorem fk_x_157 : FOK "MissCurves$Row" 13 [21] 1 isR := FOK.one (by decide) rfl (Nat.le_of_ble_eq_true rfl) (Or.inl ⟨_, q1396, Or.inl rfl⟩) rfl
def X21_of_c11 (rec : Option Nat → Option Nat → Hp → Option (Int32 × Hp)) (l0 : Option Nat) (l1 : Option Nat) (l2 : Option Nat) (l3 : Int32) (k49 : Hp → Option (Int32 × Hp)) (k68 : Hp → Option (Int32 × Hp)) : Nat → Int32 → Hp → Option (Int32 × Hp)
  | 0, _, _ => none
  | n + 1, l4, σ =>
    if l3 ≤ l4 then
      k68  σ
    else
      (aR 11 σ l2 l4).bind fun v2 =>
      (rec v2 l1 σ).bind fun q3 =>
      (gI q3.2 l1 [5] 1).bind fun v4 =>
      if v4 = 0 then
        (gI q3.2 l0 [21] 0).bind fun v6 =>
        if q3.1 = v6 then
          X21_of_c11 rec l0 l1 l2 l3 k49 k68 n (l4 + (1 : Int32)) q3.2
        else
          k49  q3.2
      else
        some ((0 : Int32), q3.2)
set_option maxHeartbeats 4000000 in
theorem jX21_of_c11 {γ : GP} {σ0 : Hp} {q : (Int32 × Hp)} (hγ : GOK γ) {d : Nat} (rec : Option Nat → Option Nat → Hp → Option (Int32 × Hp)) (hrec : ∀ (x0 : Option Nat) (x1 : Option Nat) (σ : Hp) (q : (Int32 × Hp)), rec x0 x1 σ = some q → UR γ (65 + d) ({ cls := "MissCurves$Test", name := "of", desc := "(LMissCurves$Asked;)Z" } : MethodName) 1 x0 [va_rf x1] (σ, .inr (some (.int q.1)), q.2)) (l0 : Option Nat) (l1 : Option Nat) (l2 : Option Nat) (l3 : Int32) {k49 : Hp → Option (Int32 × Hp)} {k68 : Hp → Option (Int32 × Hp)} (hk49 : ∀  (σ : Hp), k49  σ = some q → J γ (mX21_of d) (σ0, .inr (some (.int q.1)), q.2) σ 49 [(0, 1, va_rf l0)] []) (hk68 : ∀  (σ : Hp), k68  σ = some q → J γ (mX21_of d) (σ0, .inr (some (.int q.1)), q.2) σ 68 [(0, 1, va_rf l0)] []) : ∀ (n : Nat) (l4 : Int32) (σ : Hp), X21_of_c11 rec l0 l1 l2 l3 k49 k68 n l4 σ = some q → J γ (mX21_of d) (σ0, .inr (some (.int q.1)), q.2) σ 11 [(0, 1, va_rf l0), (1, 1, va_rf l1), (2, 1, va_rf l2), (3, 1, .int l3), (4, 1, .int l4)] [] := by
  intro n
  induction n with
  | zero => intro l4 σ h; exact nomatch (show none = some q from h)
  | succ n ih =>
    intro l4 σ h
    rw [X21_of_c11] at h
    refine J_iload (i := 4) 4 13 dX21_of_11 rfl rfl ?_
    refine J_iload_n (i := 3) 3 14 dX21_of_13 rfl rfl rfl ?_
    refine J_icmp_ge 68 17 dX21_of_14 (by decide) rfl (fun c1 => ?_) (fun c1 => ?_)
    · rw [if_pos c1] at h
      refine J.pick [0] rfl ?_
      exact hk68  σ h
    · rw [if_neg c1] at h
      refine J_aload_n (i := 2) 2 18 dX21_of_17 rfl rfl rfl ?_
      refine J_iload (i := 4) 4 20 dX21_of_18 rfl rfl ?_
      obtain ⟨v2, hv2, h⟩ := some_of_bind h
      refine J_aald 11 (by decide) (by decide) rfl 21 dX21_of_20 rfl hv2 ?_
      refine J_astore (i := 5) 23 [(5, 1, va_rf v2), (0, 1, va_rf l0), (1, 1, va_rf l1), (2, 1, va_rf l2), (3, 1, .int l3), (4, 1, .int l4)] dX21_of_21 rfl (Nat.le_of_ble_eq_true rfl) rfl ?_
      refine J_aload (i := 5) 0 25 dX21_of_23 rfl rfl ?_
      refine J_aload_n (i := 1) 2 26 dX21_of_25 rfl rfl rfl ?_
      obtain ⟨q3, hq3, h⟩ := some_of_bind h
      refine J_cUi (na := 1) 29 dX21_of_26 rfl q604 q571 q570 ⟨by decide, by decide, by decide +kernel⟩ (show (65 + d) + 1 ≤ 65 + d + 1 by omega) cs_nil (by decide) [va_rf l1] rfl rfl (hrec v2 l1 σ q3 hq3) ?_
      refine J_istore (i := 6) 31 [(6, 1, .int q3.1), (5, 1, va_rf v2), (0, 1, va_rf l0), (1, 1, va_rf l1), (2, 1, va_rf l2), (3, 1, .int l3), (4, 1, .int l4)] dX21_of_29 rfl (Nat.le_of_ble_eq_true rfl) rfl ?_
      refine J_aload_n (i := 1) 3 32 dX21_of_31 rfl rfl rfl ?_
      obtain ⟨v4, hv4, h⟩ := some_of_bind h
      refine J_gI 35 dX21_of_32 rfl fk_x_155 hv4 ?_
      refine J_if_eq 40 38 dX21_of_35 (by decide) rfl (fun c5 => ?_) (fun c5 => ?_)
      · rw [if_pos c5] at h
        refine J_iload (i := 6) 0 42 dX21_of_40 rfl rfl ?_
        refine J_aload_n (i := 0) 2 43 dX21_of_42 rfl rfl rfl ?_
        obtain ⟨v6, hv6, h⟩ := some_of_bind h
        refine J_gI 46 dX21_of_43 rfl fk_x_156 hv6 ?_
        refine J_icmp_eq 62 49 dX21_of_46 (by decide) rfl (fun c7 => ?_) (fun c7 => ?_)
        · rw [if_pos c7] at h
          refine J_iinc (i := 4) (v := l4 + (1 : Int32)) 6 65 [(4, 1, .int (l4 + (1 : Int32))), (6, 1, .int q3.1), (5, 1, va_rf v2), (0, 1, va_rf l0), (1, 1, va_rf l1), (2, 1, va_rf l2), (3, 1, .int l3)] dX21_of_62 rfl rfl (Nat.le_of_ble_eq_true rfl) (by rw [kic_1]) rfl ?_
          refine J_goto 11 dX21_of_65 (by decide) ?_
          refine J.pick [3, 4, 5, 6, 0] rfl ?_
          exact ih (l4 + (1 : Int32)) q3.2 h
        · rw [if_neg c7] at h
          refine J.pick [2] rfl ?_
          exact hk49  q3.2 h
      · rw [if_neg c5] at h
        refine J_ic 39 dX21_of_38 rfl (0 : Int32) kic_0 ?_
        exact J_zret rfl (by decide) dX21_of_39 (retI h)
def X21_of (rec : Option Nat → Option Nat → Hp → Option (Int32 × Hp)) (l0 : Option Nat) (l1 : Option Nat) (σ : Hp) : Option (Int32 × Hp) :=
  (gR σ l0 [21] 1).bind fun v1 =>
  (aN σ v1).bind fun v2 =>
  X21_of_c11 rec l0 l1 v1 v2 (fun τ3 =>
    (gI τ3 l0 [21] 0).bind fun v4 =>
    if v4 = 0 then
      some ((1 : Int32), τ3)
    else
      some ((0 : Int32), τ3))
  (fun τ8 =>
    (gI τ8 l0 [21] 0).bind fun v9 =>
    rZ v9 τ8) FUEL (0 : Int32) σ
set_option maxHeartbeats 4000000 in
theorem sX21_of {γ : GP} (hγ : GOK γ) {d : Nat} (rec : Option Nat → Option Nat → Hp → Option (Int32 × Hp)) (hrec : ∀ (x0 : Option Nat) (x1 : Option Nat) (σ : Hp) (q : (Int32 × Hp)), rec x0 x1 σ = some q → UR γ (65 + d) ({ cls := "MissCurves$Test", name := "of", desc := "(LMissCurves$Asked;)Z" } : MethodName) 1 x0 [va_rf x1] (σ, .inr (some (.int q.1)), q.2)) (l0 : Option Nat) (l1 : Option Nat) (σ : Hp) (q : (Int32 × Hp)) (h : X21_of rec l0 l1 σ = some q) : Rn γ (mX21_of d) yX21_of [va_rf l0, va_rf l1] (σ, .inr (some (.int q.1)), q.2) := by
  refine J_m hγ (ykX21_of d) rfl [(1, va_rf l0), (1, va_rf l1)] (cats_r (cats_r cats_nil)) (Nat.le_of_ble_eq_true rfl) ?_
  show J γ (mX21_of d) _ σ 0 [(0, 1, va_rf l0), (1, 1, va_rf l1)] []
  unfold X21_of at h
  refine J_aload_n (i := 0) 0 1 dX21_of_0 rfl rfl rfl ?_
  obtain ⟨v1, hv1, h⟩ := some_of_bind h
  refine J_gR 4 dX21_of_1 rfl fk_x_157 hv1 ?_
  refine J_astore_n (i := 2) 5 [(2, 1, va_rf v1), (0, 1, va_rf l0), (1, 1, va_rf l1)] dX21_of_4 rfl rfl (Nat.le_of_ble_eq_true rfl) rfl ?_
  refine J_aload_n (i := 2) 0 6 dX21_of_5 rfl rfl rfl ?_
  obtain ⟨v2, hv2, h⟩ := some_of_bind h
  refine J_alen 7 dX21_of_6 rfl hv2 ?_
  refine J_istore_n (i := 3) 8 [(3, 1, .int v2), (2, 1, va_rf v1), (0, 1, va_rf l0), (1, 1, va_rf l1)] dX21_of_7 rfl rfl (Nat.le_of_ble_eq_true rfl) rfl ?_
  refine J_ic 9 dX21_of_8 rfl (0 : Int32) kic_0 ?_
  refine J_istore (i := 4) 11 [(4, 1, .int (0 : Int32)), (3, 1, .int v2), (2, 1, va_rf v1), (0, 1, va_rf l0), (1, 1, va_rf l1)] dX21_of_9 rfl (Nat.le_of_ble_eq_true rfl) rfl ?_
  refine J.pick [3, 4, 2, 1, 0] rfl ?_
  refine jX21_of_c11 hγ rec hrec l0 l1 v1 v2 (fun τ3 h => ?_) (fun τ8 h => ?_) FUEL (0 : Int32) σ h
  · refine J_aload_n (i := 0) 0 50 dX21_of_49 rfl rfl rfl ?_
    obtain ⟨v4, hv4, h⟩ := some_of_bind h
    refine J_gI 53 dX21_of_50 rfl fk_x_156 hv4 ?_
    refine J_if_ne 60 56 dX21_of_53 (by decide) rfl (fun c5 => ?_) (fun c5 => ?_)
    · rw [if_neg c5] at h
      refine J_ic 61 dX21_of_60 rfl (0 : Int32) kic_0 ?_
      exact J_zret rfl (by decide) dX21_of_61 (retI h)
    · rw [if_pos c5] at h
      refine J_ic 57 dX21_of_56 rfl (1 : Int32) kic_1 ?_
      refine J_goto 61 dX21_of_57 (by decide) ?_
      exact J_zret rfl (by decide) dX21_of_61 (retI h)
  · refine J_aload_n (i := 0) 0 69 dX21_of_68 rfl rfl rfl ?_
    obtain ⟨v9, hv9, h⟩ := some_of_bind h
    refine J_gI 72 dX21_of_69 rfl fk_x_156 hv9 ?_
    exact J_zret rfl (ite_some h).1 dX21_of_72 (retZ h)
def vTest : Nat → Option Nat → Option Nat → Hp → Option (Int32 × Hp)
  | 0, _, _, _ => none
  | d + 1, x0, x1, σ => x0.bind fun a => if htg σ a = 19 then X19_of x0 x1 σ else if htg σ a = 20 then X20_of (vTest d) x0 x1 σ else if htg σ a = 21 then X21_of (vTest d) x0 x1 σ else none
theorem svTest {γ : GP} (hγ : GOK γ) : ∀ (d : Nat) (x0 : Option Nat) (x1 : Option Nat) (σ : Hp) (q : (Int32 × Hp)), vTest d x0 x1 σ = some q → UR γ (65 + d) ({ cls := "MissCurves$Test", name := "of", desc := "(LMissCurves$Asked;)Z" } : MethodName) 1 x0 [va_rf x1] (σ, .inr (some (.int q.1)), q.2) := by
  intro d
  induction d with
  | zero => intro x0 x1 σ q h; exact nomatch (show none = some q from h)
  | succ d ih =>
    intro x0 x1 σ q h
    rw [vTest] at h
    obtain ⟨a, ha, h⟩ := some_of_bind h
    rcases Classical.em (htg σ a = 19) with c0 | c0
    · rw [if_pos c0] at h
      exact UR.of (c9 := 19) (b := a) (show cT σ x0 19 = some a by rw [ha]; exact if_pos c0) (by decide) rfl ykX19_of q572 q573 (show 64 ≤ 65 + (d + 1) by omega) (sX19_of hγ x0 x1 σ q h)
    · rw [if_neg c0] at h
      rcases Classical.em (htg σ a = 20) with c1 | c1
      · rw [if_pos c1] at h
        exact UR.of (c9 := 20) (b := a) (show cT σ x0 20 = some a by rw [ha]; exact if_pos c1) (by decide) rfl (ykX20_of d) q598 q599 (show 65 + d + 1 ≤ 65 + (d + 1) by omega) (sX20_of hγ (vTest d) ih x0 x1 σ q h)
      · rw [if_neg c1] at h
        rcases Classical.em (htg σ a = 21) with c2 | c2
        · rw [if_pos c2] at h
          exact UR.of (c9 := 21) (b := a) (show cT σ x0 21 = some a by rw [ha]; exact if_pos c2) (by decide) rfl (ykX21_of d) q605 q602 (show 65 + d + 1 ≤ 65 + (d + 1) by omega) (sX21_of hγ (vTest d) ih x0 x1 σ q h)
        · rw [if_neg c2] at h
          cases h
abbrev mX17_holds : MP := (cX17_holds, "MissCurves$Clause", 2, (Option.some FieldType.boolean), 106, "holds", [])
theorem ykX17_holds : YK yX17_holds mX17_holds 1 := ⟨q568, q164, ⟨by decide, by decide⟩, by decide +kernel, Nat.le_of_ble_eq_true rfl, by decide, rfl, rfl⟩
theorem pk_x_158 {nm9 : String} : POK "MissCurves$Clause" nm9 38 [17] 3 .long := POK.one (by decide) rfl (Nat.le_of_ble_eq_true rfl) (Or.inl ⟨_, q1411, Or.inl rfl⟩) rfl (by decide +kernel) (Or.inl rfl)
theorem fk_x_159 : FOK "MissCurves$Clause" 21 [5] 1 isI := FOK.one (by decide) rfl (Nat.le_of_ble_eq_true rfl) (Or.inr ⟨_, q352⟩) rfl
theorem fk_x_160 : FOK "MissCurves$Clause" 13 [17] 1 isR := FOK.one (by decide) rfl (Nat.le_of_ble_eq_true rfl) (Or.inl ⟨_, q1409, Or.inl rfl⟩) rfl
theorem pk_x_161 {nm9 : String} : POK "MissCurves$Clause" nm9 21 [5] 1 .boolean := POK.one (by decide) rfl (Nat.le_of_ble_eq_true rfl) (Or.inr ⟨_, q352⟩) rfl (by decide +kernel) (Or.inl rfl)
theorem fk_x_162 : FOK "MissCurves$Clause" 17 [17] 2 isR := FOK.one (by decide) rfl (Nat.le_of_ble_eq_true rfl) (Or.inl ⟨_, q1410, Or.inl rfl⟩) rfl
def X17_holds_c52  (l1 : Option Nat) (s0 : Option Nat) (s1 : Int64) (σ : Hp) : Option (Int32 × Hp) :=
  (pL σ s0 [17] 3 s1).bind fun σ1 =>
  (gI σ1 l1 [5] 1).bind fun v2 =>
  if v2 = 0 then
    some ((1 : Int32), σ1)
  else
    some ((0 : Int32), σ1)
set_option maxHeartbeats 4000000 in
theorem jX17_holds_c52 {γ : GP} {σ0 : Hp} {q : (Int32 × Hp)} (hγ : GOK γ) (l1 : Option Nat)  (s0 : Option Nat) (s1 : Int64) (σ : Hp) (h : X17_holds_c52 l1 s0 s1 σ = some q) : J γ mX17_holds (σ0, .inr (some (.int q.1)), q.2) σ 52 [(1, 1, va_rf l1)] [.long s1, va_rf s0] := by
  unfold X17_holds_c52 at h
  obtain ⟨σ1, hσ1, h⟩ := some_of_bind h
  refine J_pL 55 dX17_holds_52 rfl pk_x_158 hσ1 ?_
  refine J_aload_n (i := 1) 0 56 dX17_holds_55 rfl rfl rfl ?_
  obtain ⟨v2, hv2, h⟩ := some_of_bind h
  refine J_gI 59 dX17_holds_56 rfl fk_x_159 hv2 ?_
  refine J_if_ne 66 62 dX17_holds_59 (by decide) rfl (fun c3 => ?_) (fun c3 => ?_)
  · rw [if_neg c3] at h
    refine J_ic 67 dX17_holds_66 rfl (0 : Int32) kic_0 ?_
    exact J_zret rfl (by decide) dX17_holds_67 (retI h)
  · rw [if_pos c3] at h
    refine J_ic 63 dX17_holds_62 rfl (1 : Int32) kic_1 ?_
    refine J_goto 67 dX17_holds_63 (by decide) ?_
    exact J_zret rfl (by decide) dX17_holds_67 (retI h)
def X17_holds_c23  (l0 : Option Nat) (l1 : Option Nat)  (σ : Hp) : Option (Int32 × Hp) :=
  (gI σ l1 [5] 1).bind fun v1 =>
  if v1 = 0 then
    (gR σ l0 [17] 1).bind fun v3 =>
    if v3 = none then
      X17_holds_c52  l1 l0 (0 : Int64) σ
    else
      (gR σ l0 [17] 1).bind fun v5 =>
      (vSum 60 v5 l1 σ).bind fun q6 =>
      X17_holds_c52  l1 l0 q6.1 q6.2
  else
    some ((0 : Int32), σ)
set_option maxHeartbeats 4000000 in
theorem jX17_holds_c23 {γ : GP} {σ0 : Hp} {q : (Int32 × Hp)} (hγ : GOK γ) (l0 : Option Nat) (l1 : Option Nat)   (σ : Hp) (h : X17_holds_c23 l0 l1 σ = some q) : J γ mX17_holds (σ0, .inr (some (.int q.1)), q.2) σ 23 [(0, 1, va_rf l0), (1, 1, va_rf l1)] [] := by
  unfold X17_holds_c23 at h
  refine J_aload_n (i := 1) 1 24 dX17_holds_23 rfl rfl rfl ?_
  obtain ⟨v1, hv1, h⟩ := some_of_bind h
  refine J_gI 27 dX17_holds_24 rfl fk_x_159 hv1 ?_
  refine J_if_eq 32 30 dX17_holds_27 (by decide) rfl (fun c2 => ?_) (fun c2 => ?_)
  · rw [if_pos c2] at h
    refine J_aload_n (i := 0) 0 33 dX17_holds_32 rfl rfl rfl ?_
    refine J_aload_n (i := 0) 0 34 dX17_holds_33 rfl rfl rfl ?_
    obtain ⟨v3, hv3, h⟩ := some_of_bind h
    refine J_gR 37 dX17_holds_34 rfl fk_x_160 hv3 ?_
    refine J_ifnonnull 44 40 dX17_holds_37 (by decide) rfl (fun c4 => ?_) (fun c4 => ?_)
    · rw [if_neg c4] at h
      refine J_aload_n (i := 0) 0 45 dX17_holds_44 rfl rfl rfl ?_
      obtain ⟨v5, hv5, h⟩ := some_of_bind h
      refine J_gR 48 dX17_holds_45 rfl fk_x_160 hv5 ?_
      refine J_aload_n (i := 1) 1 49 dX17_holds_48 rfl rfl rfl ?_
      obtain ⟨q6, hq6, h⟩ := some_of_bind h
      refine J_cUl (na := 1) 52 dX17_holds_49 rfl q606 q577 q576 ⟨by decide, by decide, by decide +kernel⟩ (show (3 + 60) + 1 ≤ 106 by omega) (cs_rf cs_nil) (by decide) [va_rf l1] rfl rfl (svSum hγ 60 v5 l1 σ q6 hq6) ?_
      refine J.pick [1] rfl ?_
      exact jX17_holds_c52 hγ l1 l0 q6.1 q6.2 h
    · rw [if_pos c4] at h
      refine J_lconst 41 dX17_holds_40 rfl (0 : Int64) rfl ?_
      refine J_goto 52 dX17_holds_41 (by decide) ?_
      refine J.pick [1] rfl ?_
      exact jX17_holds_c52 hγ l1 l0 (0 : Int64) σ h
  · rw [if_neg c2] at h
    refine J_ic 31 dX17_holds_30 rfl (0 : Int32) kic_0 ?_
    exact J_zret rfl (by decide) dX17_holds_31 (retI h)
def X17_holds (l0 : Option Nat) (l1 : Option Nat) (σ : Hp) : Option (Int32 × Hp) :=
  (pZ σ l1 [5] 1 (0 : Int32)).bind fun σ1 =>
  (gR σ1 l0 [17] 2).bind fun v2 =>
  if v2 = none then
    X17_holds_c23  l0 l1  σ1
  else
    (gR σ1 l0 [17] 2).bind fun v4 =>
    (vTest 40 v4 l1 σ1).bind fun q5 =>
    if q5.1 = 0 then
      some ((0 : Int32), q5.2)
    else
      X17_holds_c23  l0 l1  q5.2
set_option maxHeartbeats 4000000 in
theorem sX17_holds {γ : GP} (hγ : GOK γ) (l0 : Option Nat) (l1 : Option Nat) (σ : Hp) (q : (Int32 × Hp)) (h : X17_holds l0 l1 σ = some q) : Rn γ mX17_holds yX17_holds [va_rf l0, va_rf l1] (σ, .inr (some (.int q.1)), q.2) := by
  refine J_m hγ ykX17_holds rfl [(1, va_rf l0), (1, va_rf l1)] (cats_r (cats_r cats_nil)) (Nat.le_of_ble_eq_true rfl) ?_
  show J γ mX17_holds _ σ 0 [(0, 1, va_rf l0), (1, 1, va_rf l1)] []
  unfold X17_holds at h
  refine J_aload_n (i := 1) 1 1 dX17_holds_0 rfl rfl rfl ?_
  refine J_ic 2 dX17_holds_1 rfl (0 : Int32) kic_0 ?_
  obtain ⟨σ1, hσ1, h⟩ := some_of_bind h
  refine J_pZ 5 dX17_holds_2 rfl pk_x_161 hσ1 ?_
  refine J_aload_n (i := 0) 0 6 dX17_holds_5 rfl rfl rfl ?_
  obtain ⟨v2, hv2, h⟩ := some_of_bind h
  refine J_gR 9 dX17_holds_6 rfl fk_x_162 hv2 ?_
  refine J_ifnull 23 12 dX17_holds_9 (by decide) rfl (fun c3 => ?_) (fun c3 => ?_)
  · rw [if_pos c3] at h
    exact jX17_holds_c23 hγ l0 l1  σ1 h
  · rw [if_neg c3] at h
    refine J_aload_n (i := 0) 0 13 dX17_holds_12 rfl rfl rfl ?_
    obtain ⟨v4, hv4, h⟩ := some_of_bind h
    refine J_gR 16 dX17_holds_13 rfl fk_x_162 hv4 ?_
    refine J_aload_n (i := 1) 1 17 dX17_holds_16 rfl rfl rfl ?_
    obtain ⟨q5, hq5, h⟩ := some_of_bind h
    refine J_cUi (na := 1) 20 dX17_holds_17 rfl q569 q571 q570 ⟨by decide, by decide, by decide +kernel⟩ (show (65 + 40) + 1 ≤ 106 by omega) cs_nil (by decide) [va_rf l1] rfl rfl (svTest hγ 40 v4 l1 σ1 q5 hq5) ?_
    refine J_if_eq 30 23 dX17_holds_20 (by decide) rfl (fun c6 => ?_) (fun c6 => ?_)
    · rw [if_pos c6] at h
      refine J_ic 31 dX17_holds_30 rfl (0 : Int32) kic_0 ?_
      exact J_zret rfl (by decide) dX17_holds_31 (retI h)
    · rw [if_neg c6] at h
      exact jX17_holds_c23 hγ l0 l1  q5.2 h
abbrev mX6_has : MP := (cX6_has, "MissCurves$Text", 4, (Option.some FieldType.boolean), 107, "has", [])
theorem ykX6_has : YK yX6_has mX6_has 2 := ⟨q620, q137, ⟨by decide, by decide⟩, by decide +kernel, Nat.le_of_ble_eq_true rfl, by decide, rfl, rfl⟩
theorem fk_x_163 : FOK "MissCurves$Text" 7 [6] 0 isR := FOK.one (by decide) rfl (Nat.le_of_ble_eq_true rfl) (Or.inl ⟨_, q372, Or.inl rfl⟩) rfl
theorem fk_x_164 : FOK "MissCurves$Text" 13 [17] 0 isI := FOK.one (by decide) rfl (Nat.le_of_ble_eq_true rfl) (Or.inr ⟨_, q1408⟩) rfl
def X6_has_c2 (l0 : Option Nat) (l1 : Int32) (l2 : Option Nat)  : Nat → Int32 → Hp → Option (Int32 × Hp)
  | 0, _, _ => none
  | n + 1, l3, σ =>
    (gR σ l0 [6] 0).bind fun v1 =>
    (aN σ v1).bind fun v2 =>
    if v2 ≤ l3 then
      some ((0 : Int32), σ)
    else
      (gR σ l0 [6] 0).bind fun v5 =>
      (aR 10 σ v5 l3).bind fun v6 =>
      (gI σ v6 [17] 0).bind fun v7 =>
      if v7 = l1 then
        (gR σ l0 [6] 0).bind fun v9 =>
        (aR 10 σ v9 l3).bind fun v10 =>
        (cT σ v10 17).bind fun b12 =>
        (X17_holds v10 l2 σ).bind fun q11 =>
        if q11.1 = 0 then
          X6_has_c2 l0 l1 l2 n (l3 + (1 : Int32)) q11.2
        else
          some ((1 : Int32), q11.2)
      else
        X6_has_c2 l0 l1 l2 n (l3 + (1 : Int32)) σ
set_option maxHeartbeats 4000000 in
theorem jX6_has_c2 {γ : GP} {σ0 : Hp} {q : (Int32 × Hp)} (hγ : GOK γ) (l0 : Option Nat) (l1 : Int32) (l2 : Option Nat)  : ∀ (n : Nat) (l3 : Int32) (σ : Hp), X6_has_c2 l0 l1 l2 n l3 σ = some q → J γ mX6_has (σ0, .inr (some (.int q.1)), q.2) σ 2 [(0, 1, va_rf l0), (1, 1, .int l1), (2, 1, va_rf l2), (3, 1, .int l3)] [] := by
  intro n
  induction n with
  | zero => intro l3 σ h; exact nomatch (show none = some q from h)
  | succ n ih =>
    intro l3 σ h
    rw [X6_has_c2] at h
    refine J_iload_n (i := 3) 3 3 dX6_has_2 rfl rfl rfl ?_
    refine J_aload_n (i := 0) 0 4 dX6_has_3 rfl rfl rfl ?_
    obtain ⟨v1, hv1, h⟩ := some_of_bind h
    refine J_gR 7 dX6_has_4 rfl fk_x_163 hv1 ?_
    obtain ⟨v2, hv2, h⟩ := some_of_bind h
    refine J_alen 8 dX6_has_7 rfl hv2 ?_
    refine J_icmp_ge 45 11 dX6_has_8 (by decide) rfl (fun c3 => ?_) (fun c3 => ?_)
    · rw [if_pos c3] at h
      refine J_ic 46 dX6_has_45 rfl (0 : Int32) kic_0 ?_
      exact J_zret rfl (by decide) dX6_has_46 (retI h)
    · rw [if_neg c3] at h
      refine J_aload_n (i := 0) 0 12 dX6_has_11 rfl rfl rfl ?_
      obtain ⟨v5, hv5, h⟩ := some_of_bind h
      refine J_gR 15 dX6_has_12 rfl fk_x_163 hv5 ?_
      refine J_iload_n (i := 3) 3 16 dX6_has_15 rfl rfl rfl ?_
      obtain ⟨v6, hv6, h⟩ := some_of_bind h
      refine J_aald 10 (by decide) (by decide) rfl 17 dX6_has_16 rfl hv6 ?_
      obtain ⟨v7, hv7, h⟩ := some_of_bind h
      refine J_gI 20 dX6_has_17 rfl fk_x_164 hv7 ?_
      refine J_iload_n (i := 1) 1 21 dX6_has_20 rfl rfl rfl ?_
      refine J_icmp_ne 39 24 dX6_has_21 (by decide) rfl (fun c8 => ?_) (fun c8 => ?_)
      · rw [if_neg c8] at h
        refine J_iinc (i := 3) (v := l3 + (1 : Int32)) 3 42 [(3, 1, .int (l3 + (1 : Int32))), (0, 1, va_rf l0), (1, 1, .int l1), (2, 1, va_rf l2)] dX6_has_39 rfl rfl (Nat.le_of_ble_eq_true rfl) (by rw [kic_1]) rfl ?_
        refine J_goto 2 dX6_has_42 (by decide) ?_
        refine J.pick [1, 2, 3, 0] rfl ?_
        exact ih (l3 + (1 : Int32)) σ h
      · rw [if_pos c8] at h
        refine J_aload_n (i := 0) 0 25 dX6_has_24 rfl rfl rfl ?_
        obtain ⟨v9, hv9, h⟩ := some_of_bind h
        refine J_gR 28 dX6_has_25 rfl fk_x_163 hv9 ?_
        refine J_iload_n (i := 3) 3 29 dX6_has_28 rfl rfl rfl ?_
        obtain ⟨v10, hv10, h⟩ := some_of_bind h
        refine J_aald 10 (by decide) (by decide) rfl 30 dX6_has_29 rfl hv10 ?_
        refine J_aload_n (i := 2) 2 31 dX6_has_30 rfl rfl rfl ?_
        obtain ⟨b12, hb12, h⟩ := some_of_bind h
        obtain ⟨q11, hq11, h⟩ := some_of_bind h
        refine J_cVi 34 dX6_has_31 rfl ykX17_holds (Or.inl q565) q566 q567 (Nat.le_of_ble_eq_true rfl) cs_nil (by decide) [va_rf l2] hb12 (by decide) rfl rfl rfl (sX17_holds hγ v10 l2 σ q11 hq11) ?_
        refine J_if_eq 39 37 dX6_has_34 (by decide) rfl (fun c13 => ?_) (fun c13 => ?_)
        · rw [if_pos c13] at h
          refine J_iinc (i := 3) (v := l3 + (1 : Int32)) 3 42 [(3, 1, .int (l3 + (1 : Int32))), (0, 1, va_rf l0), (1, 1, .int l1), (2, 1, va_rf l2)] dX6_has_39 rfl rfl (Nat.le_of_ble_eq_true rfl) (by rw [kic_1]) rfl ?_
          refine J_goto 2 dX6_has_42 (by decide) ?_
          refine J.pick [1, 2, 3, 0] rfl ?_
          exact ih (l3 + (1 : Int32)) q11.2 h
        · rw [if_neg c13] at h
          refine J_ic 38 dX6_has_37 rfl (1 : Int32) kic_1 ?_
          exact J_zret rfl (by decide) dX6_has_38 (retI h)
def X6_has (l0 : Option Nat) (l1 : Int32) (l2 : Option Nat) (σ : Hp) : Option (Int32 × Hp) :=
  X6_has_c2 l0 l1 l2  FUEL (0 : Int32) σ
set_option maxHeartbeats 4000000 in
theorem sX6_has {γ : GP} (hγ : GOK γ) (l0 : Option Nat) (l1 : Int32) (l2 : Option Nat) (σ : Hp) (q : (Int32 × Hp)) (h : X6_has l0 l1 l2 σ = some q) : Rn γ mX6_has yX6_has [va_rf l0, .int l1, va_rf l2] (σ, .inr (some (.int q.1)), q.2) := by
  refine J_m hγ ykX6_has rfl [(1, va_rf l0), (1, .int l1), (1, va_rf l2)] (cats_r (cats_i (cats_r cats_nil))) (Nat.le_of_ble_eq_true rfl) ?_
  show J γ mX6_has _ σ 0 [(0, 1, va_rf l0), (1, 1, .int l1), (2, 1, va_rf l2)] []
  unfold X6_has at h
  refine J_ic 1 dX6_has_0 rfl (0 : Int32) kic_0 ?_
  refine J_istore_n (i := 3) 2 [(3, 1, .int (0 : Int32)), (0, 1, va_rf l0), (1, 1, .int l1), (2, 1, va_rf l2)] dX6_has_1 rfl rfl (Nat.le_of_ble_eq_true rfl) rfl ?_
  refine J.pick [1, 2, 3, 0] rfl ?_
  refine jX6_has_c2 hγ l0 l1 l2  FUEL (0 : Int32) σ h
abbrev mX6_tells : MP := (cX6_tells, "MissCurves$Text", 8, (Option.some FieldType.int), 107, "tells", [])
theorem ykX6_tells : YK yX6_tells mX6_tells 4 := ⟨q564, q137, ⟨by decide, by decide⟩, by decide +kernel, Nat.le_of_ble_eq_true rfl, by decide, rfl, rfl⟩
theorem fk_x_165 : FOK "MissCurves$Text" 23 [17] 3 isL := FOK.one (by decide) rfl (Nat.le_of_ble_eq_true rfl) (Or.inr ⟨_, q1412⟩) rfl
def X6_tells_c7 (l0 : Option Nat) (l1 : Int32) (l2 : Option Nat) (l4 : Int32) (k73 : Int64 → Hp → Option (Int32 × Hp)) : Nat → Int64 → Int32 → Hp → Option (Int32 × Hp)
  | 0, _, _, _ => none
  | n + 1, l5, l7, σ =>
    (gR σ l0 [6] 0).bind fun v1 =>
    (aN σ v1).bind fun v2 =>
    if v2 ≤ l7 then
      k73 l5 σ
    else
      (gR σ l0 [6] 0).bind fun v4 =>
      (aR 10 σ v4 l7).bind fun v5 =>
      (gI σ v5 [17] 0).bind fun v6 =>
      if v6 = l1 then
        (gR σ l0 [6] 0).bind fun v8 =>
        (aR 10 σ v8 l7).bind fun v9 =>
        (cT σ v9 17).bind fun b11 =>
        (X17_holds v9 l2 σ).bind fun q10 =>
        if q10.1 = 0 then
          X6_tells_c7 l0 l1 l2 l4 k73 n l5 (l7 + (1 : Int32)) q10.2
        else
          (gR q10.2 l0 [6] 0).bind fun v13 =>
          (aR 10 q10.2 v13 l7).bind fun v14 =>
          (gL q10.2 v14 [17] 3).bind fun v15 =>
          X6_tells_c7 l0 l1 l2 l4 k73 n (lmax (0 : Int64) (lmin l4.toInt64 v15)) (l7 + (1 : Int32)) q10.2
      else
        X6_tells_c7 l0 l1 l2 l4 k73 n l5 (l7 + (1 : Int32)) σ
set_option maxHeartbeats 4000000 in
theorem jX6_tells_c7 {γ : GP} {σ0 : Hp} {q : (Int32 × Hp)} (hγ : GOK γ) (l0 : Option Nat) (l1 : Int32) (l2 : Option Nat) (l4 : Int32) {k73 : Int64 → Hp → Option (Int32 × Hp)} (hk73 : ∀ (l5 : Int64) (σ : Hp), k73 l5 σ = some q → J γ mX6_tells (σ0, .inr (some (.int q.1)), q.2) σ 73 [(5, 2, .long l5)] []) : ∀ (n : Nat) (l5 : Int64) (l7 : Int32) (σ : Hp), X6_tells_c7 l0 l1 l2 l4 k73 n l5 l7 σ = some q → J γ mX6_tells (σ0, .inr (some (.int q.1)), q.2) σ 7 [(0, 1, va_rf l0), (1, 1, .int l1), (2, 1, va_rf l2), (4, 1, .int l4), (5, 2, .long l5), (7, 1, .int l7)] [] := by
  intro n
  induction n with
  | zero => intro l5 l7 σ h; exact nomatch (show none = some q from h)
  | succ n ih =>
    intro l5 l7 σ h
    rw [X6_tells_c7] at h
    refine J_iload (i := 7) 5 9 dX6_tells_7 rfl rfl ?_
    refine J_aload_n (i := 0) 0 10 dX6_tells_9 rfl rfl rfl ?_
    obtain ⟨v1, hv1, h⟩ := some_of_bind h
    refine J_gR 13 dX6_tells_10 rfl fk_x_163 hv1 ?_
    obtain ⟨v2, hv2, h⟩ := some_of_bind h
    refine J_alen 14 dX6_tells_13 rfl hv2 ?_
    refine J_icmp_ge 73 17 dX6_tells_14 (by decide) rfl (fun c3 => ?_) (fun c3 => ?_)
    · rw [if_pos c3] at h
      refine J.pick [4] rfl ?_
      exact hk73 l5 σ h
    · rw [if_neg c3] at h
      refine J_aload_n (i := 0) 0 18 dX6_tells_17 rfl rfl rfl ?_
      obtain ⟨v4, hv4, h⟩ := some_of_bind h
      refine J_gR 21 dX6_tells_18 rfl fk_x_163 hv4 ?_
      refine J_iload (i := 7) 5 23 dX6_tells_21 rfl rfl ?_
      obtain ⟨v5, hv5, h⟩ := some_of_bind h
      refine J_aald 10 (by decide) (by decide) rfl 24 dX6_tells_23 rfl hv5 ?_
      obtain ⟨v6, hv6, h⟩ := some_of_bind h
      refine J_gI 27 dX6_tells_24 rfl fk_x_164 hv6 ?_
      refine J_iload_n (i := 1) 1 28 dX6_tells_27 rfl rfl rfl ?_
      refine J_icmp_ne 67 31 dX6_tells_28 (by decide) rfl (fun c7 => ?_) (fun c7 => ?_)
      · rw [if_neg c7] at h
        refine J_iinc (i := 7) (v := l7 + (1 : Int32)) 5 70 [(7, 1, .int (l7 + (1 : Int32))), (0, 1, va_rf l0), (1, 1, .int l1), (2, 1, va_rf l2), (4, 1, .int l4), (5, 2, .long l5)] dX6_tells_67 rfl rfl (Nat.le_of_ble_eq_true rfl) (by rw [kic_1]) rfl ?_
        refine J_goto 7 dX6_tells_70 (by decide) ?_
        refine J.pick [1, 2, 3, 4, 5, 0] rfl ?_
        exact ih l5 (l7 + (1 : Int32)) σ h
      · rw [if_pos c7] at h
        refine J_aload_n (i := 0) 0 32 dX6_tells_31 rfl rfl rfl ?_
        obtain ⟨v8, hv8, h⟩ := some_of_bind h
        refine J_gR 35 dX6_tells_32 rfl fk_x_163 hv8 ?_
        refine J_iload (i := 7) 5 37 dX6_tells_35 rfl rfl ?_
        obtain ⟨v9, hv9, h⟩ := some_of_bind h
        refine J_aald 10 (by decide) (by decide) rfl 38 dX6_tells_37 rfl hv9 ?_
        refine J_aload_n (i := 2) 2 39 dX6_tells_38 rfl rfl rfl ?_
        obtain ⟨b11, hb11, h⟩ := some_of_bind h
        obtain ⟨q10, hq10, h⟩ := some_of_bind h
        refine J_cVi 42 dX6_tells_39 rfl ykX17_holds (Or.inl q565) q566 q567 (Nat.le_of_ble_eq_true rfl) cs_nil (by decide) [va_rf l2] hb11 (by decide) rfl rfl rfl (sX17_holds hγ v9 l2 σ q10 hq10) ?_
        refine J_if_eq 67 45 dX6_tells_42 (by decide) rfl (fun c12 => ?_) (fun c12 => ?_)
        · rw [if_pos c12] at h
          refine J_iinc (i := 7) (v := l7 + (1 : Int32)) 5 70 [(7, 1, .int (l7 + (1 : Int32))), (0, 1, va_rf l0), (1, 1, .int l1), (2, 1, va_rf l2), (4, 1, .int l4), (5, 2, .long l5)] dX6_tells_67 rfl rfl (Nat.le_of_ble_eq_true rfl) (by rw [kic_1]) rfl ?_
          refine J_goto 7 dX6_tells_70 (by decide) ?_
          refine J.pick [1, 2, 3, 4, 5, 0] rfl ?_
          exact ih l5 (l7 + (1 : Int32)) q10.2 h
        · rw [if_neg c12] at h
          refine J_lconst 46 dX6_tells_45 rfl (0 : Int64) rfl ?_
          refine J_iload (i := 4) 3 48 dX6_tells_46 rfl rfl ?_
          refine J_i2l 49 dX6_tells_48 rfl ?_
          refine J_aload_n (i := 0) 0 50 dX6_tells_49 rfl rfl rfl ?_
          obtain ⟨v13, hv13, h⟩ := some_of_bind h
          refine J_gR 53 dX6_tells_50 rfl fk_x_163 hv13 ?_
          refine J_iload (i := 7) 5 55 dX6_tells_53 rfl rfl ?_
          obtain ⟨v14, hv14, h⟩ := some_of_bind h
          refine J_aald 10 (by decide) (by decide) rfl 56 dX6_tells_55 rfl hv14 ?_
          obtain ⟨v15, hv15, h⟩ := some_of_bind h
          refine J_gL 59 dX6_tells_56 rfl fk_x_165 hv15 ?_
          refine J_mminL q607 (Nat.le_of_ble_eq_true rfl) (cs_long cs_nil) (by decide) 62 dX6_tells_59 rfl ?_
          refine J_mmaxL q610 (Nat.le_of_ble_eq_true rfl) cs_nil (by decide) 65 dX6_tells_62 rfl ?_
          refine J_lstore (i := 5) 67 [(5, 2, .long (lmax (0 : Int64) (lmin l4.toInt64 v15))), (0, 1, va_rf l0), (1, 1, .int l1), (2, 1, va_rf l2), (4, 1, .int l4), (7, 1, .int l7)] dX6_tells_65 rfl (Nat.le_of_ble_eq_true rfl) rfl ?_
          refine J_iinc (i := 7) (v := l7 + (1 : Int32)) 5 70 [(7, 1, .int (l7 + (1 : Int32))), (5, 2, .long (lmax (0 : Int64) (lmin l4.toInt64 v15))), (0, 1, va_rf l0), (1, 1, .int l1), (2, 1, va_rf l2), (4, 1, .int l4)] dX6_tells_67 rfl rfl (Nat.le_of_ble_eq_true rfl) (by rw [kic_1]) rfl ?_
          refine J_goto 7 dX6_tells_70 (by decide) ?_
          refine J.pick [2, 3, 4, 5, 1, 0] rfl ?_
          exact ih (lmax (0 : Int64) (lmin l4.toInt64 v15)) (l7 + (1 : Int32)) q10.2 h
def X6_tells (l0 : Option Nat) (l1 : Int32) (l2 : Option Nat) (l3 : Int32) (l4 : Int32) (σ : Hp) : Option (Int32 × Hp) :=
  X6_tells_c7 l0 l1 l2 l4 (fun x1 τ2 =>
    some (x1.toInt32, τ2)) FUEL l3.toInt64 (0 : Int32) σ
set_option maxHeartbeats 4000000 in
theorem sX6_tells {γ : GP} (hγ : GOK γ) (l0 : Option Nat) (l1 : Int32) (l2 : Option Nat) (l3 : Int32) (l4 : Int32) (σ : Hp) (q : (Int32 × Hp)) (h : X6_tells l0 l1 l2 l3 l4 σ = some q) : Rn γ mX6_tells yX6_tells [va_rf l0, .int l1, va_rf l2, .int l3, .int l4] (σ, .inr (some (.int q.1)), q.2) := by
  refine J_m hγ ykX6_tells rfl [(1, va_rf l0), (1, .int l1), (1, va_rf l2), (1, .int l3), (1, .int l4)] (cats_r (cats_i (cats_r (cats_i (cats_i cats_nil))))) (Nat.le_of_ble_eq_true rfl) ?_
  show J γ mX6_tells _ σ 0 [(0, 1, va_rf l0), (1, 1, .int l1), (2, 1, va_rf l2), (3, 1, .int l3), (4, 1, .int l4)] []
  unfold X6_tells at h
  refine J_iload_n (i := 3) 3 1 dX6_tells_0 rfl rfl rfl ?_
  refine J_i2l 2 dX6_tells_1 rfl ?_
  refine J_lstore (i := 5) 4 [(5, 2, .long l3.toInt64), (0, 1, va_rf l0), (1, 1, .int l1), (2, 1, va_rf l2), (3, 1, .int l3), (4, 1, .int l4)] dX6_tells_2 rfl (Nat.le_of_ble_eq_true rfl) rfl ?_
  refine J_ic 5 dX6_tells_4 rfl (0 : Int32) kic_0 ?_
  refine J_istore (i := 7) 7 [(7, 1, .int (0 : Int32)), (5, 2, .long l3.toInt64), (0, 1, va_rf l0), (1, 1, .int l1), (2, 1, va_rf l2), (3, 1, .int l3), (4, 1, .int l4)] dX6_tells_5 rfl (Nat.le_of_ble_eq_true rfl) rfl ?_
  refine J.pick [2, 3, 4, 6, 1, 0] rfl ?_
  refine jX6_tells_c7 hγ l0 l1 l2 l4 (fun x1 τ2 h => ?_) FUEL l3.toInt64 (0 : Int32) σ h
  · refine J_lload (i := 5) 0 75 dX6_tells_73 rfl rfl ?_
    refine J_l2i 76 dX6_tells_75 rfl ?_
    exact J_iret rfl dX6_tells_76 (retI h)
abbrev mX24_often : MP := (cX24_often, "MissCurves$Held", 4, (Option.some FieldType.int), 0, "often", [])
theorem ykX24_often : YK yX24_often mX24_often 1 := ⟨q1980, q173, ⟨by decide, by decide⟩, by decide +kernel, Nat.le_of_ble_eq_true rfl, by decide, rfl, rfl⟩
theorem fk_x_166 : FOK "MissCurves$Held" 32 [24] 6 isI := FOK.one (by decide) rfl (Nat.le_of_ble_eq_true rfl) (Or.inl ⟨_, q1869, Or.inl rfl⟩) rfl
theorem fk_x_167 : FOK "MissCurves$Held" 21 [24] 3 isR := FOK.one (by decide) rfl (Nat.le_of_ble_eq_true rfl) (Or.inl ⟨_, q1865, Or.inl rfl⟩) rfl
theorem fk_x_168 : FOK "MissCurves$Held" 35 [3] 3 isR := FOK.one (by decide) rfl (Nat.le_of_ble_eq_true rfl) (Or.inr ⟨_, q242⟩) rfl
def X24_often_c4 (l0 : Option Nat) (l1 : Int32)  : Nat → Int32 → Int32 → Hp → Option (Int32 × Hp)
  | 0, _, _, _ => none
  | n + 1, l2, l3, σ =>
    (gI σ l0 [24] 6).bind fun v1 =>
    if v1 ≤ l3 then
      some (l2, σ)
    else
      (gR σ l0 [24] 3).bind fun v3 =>
      (gR σ v3 [3] 3).bind fun v4 =>
      (aI 0 σ v4 l3).bind fun v5 =>
      if v5 = l1 then
        X24_often_c4 l0 l1 n (l2 + (1 : Int32)) (l3 + (1 : Int32)) σ
      else
        X24_often_c4 l0 l1 n (l2 + (0 : Int32)) (l3 + (1 : Int32)) σ
set_option maxHeartbeats 4000000 in
theorem jX24_often_c4 {γ : GP} {σ0 : Hp} {q : (Int32 × Hp)} (hγ : GOK γ) (l0 : Option Nat) (l1 : Int32)  : ∀ (n : Nat) (l2 : Int32) (l3 : Int32) (σ : Hp), X24_often_c4 l0 l1 n l2 l3 σ = some q → J γ mX24_often (σ0, .inr (some (.int q.1)), q.2) σ 4 [(0, 1, va_rf l0), (1, 1, .int l1), (2, 1, .int l2), (3, 1, .int l3)] [] := by
  intro n
  induction n with
  | zero => intro l2 l3 σ h; exact nomatch (show none = some q from h)
  | succ n ih =>
    intro l2 l3 σ h
    rw [X24_often_c4] at h
    refine J_iload_n (i := 3) 3 5 dX24_often_4 rfl rfl rfl ?_
    refine J_aload_n (i := 0) 0 6 dX24_often_5 rfl rfl rfl ?_
    obtain ⟨v1, hv1, h⟩ := some_of_bind h
    refine J_gI 9 dX24_often_6 rfl fk_x_166 hv1 ?_
    refine J_icmp_ge 39 12 dX24_often_9 (by decide) rfl (fun c2 => ?_) (fun c2 => ?_)
    · rw [if_pos c2] at h
      refine J_iload_n (i := 2) 2 40 dX24_often_39 rfl rfl rfl ?_
      exact J_iret rfl dX24_often_40 (retI h)
    · rw [if_neg c2] at h
      refine J_iload_n (i := 2) 2 13 dX24_often_12 rfl rfl rfl ?_
      refine J_aload_n (i := 0) 0 14 dX24_often_13 rfl rfl rfl ?_
      obtain ⟨v3, hv3, h⟩ := some_of_bind h
      refine J_gR 17 dX24_often_14 rfl fk_x_167 hv3 ?_
      obtain ⟨v4, hv4, h⟩ := some_of_bind h
      refine J_gR 20 dX24_often_17 rfl fk_x_168 hv4 ?_
      refine J_iload_n (i := 3) 3 21 dX24_often_20 rfl rfl rfl ?_
      obtain ⟨v5, hv5, h⟩ := some_of_bind h
      refine J_iald 22 dX24_often_21 rfl hv5 ?_
      refine J_iload_n (i := 1) 1 23 dX24_often_22 rfl rfl rfl ?_
      refine J_icmp_ne 30 26 dX24_often_23 (by decide) rfl (fun c6 => ?_) (fun c6 => ?_)
      · rw [if_neg c6] at h
        refine J_ic 31 dX24_often_30 rfl (0 : Int32) kic_0 ?_
        refine J_iadd 32 dX24_often_31 rfl ?_
        refine J_istore_n (i := 2) 33 [(2, 1, .int (l2 + (0 : Int32))), (0, 1, va_rf l0), (1, 1, .int l1), (3, 1, .int l3)] dX24_often_32 rfl rfl (Nat.le_of_ble_eq_true rfl) rfl ?_
        refine J_iinc (i := 3) (v := l3 + (1 : Int32)) 3 36 [(3, 1, .int (l3 + (1 : Int32))), (2, 1, .int (l2 + (0 : Int32))), (0, 1, va_rf l0), (1, 1, .int l1)] dX24_often_33 rfl rfl (Nat.le_of_ble_eq_true rfl) (by rw [kic_1]) rfl ?_
        refine J_goto 4 dX24_often_36 (by decide) ?_
        refine J.pick [2, 3, 1, 0] rfl ?_
        exact ih (l2 + (0 : Int32)) (l3 + (1 : Int32)) σ h
      · rw [if_pos c6] at h
        refine J_ic 27 dX24_often_26 rfl (1 : Int32) kic_1 ?_
        refine J_goto 31 dX24_often_27 (by decide) ?_
        refine J_iadd 32 dX24_often_31 rfl ?_
        refine J_istore_n (i := 2) 33 [(2, 1, .int (l2 + (1 : Int32))), (0, 1, va_rf l0), (1, 1, .int l1), (3, 1, .int l3)] dX24_often_32 rfl rfl (Nat.le_of_ble_eq_true rfl) rfl ?_
        refine J_iinc (i := 3) (v := l3 + (1 : Int32)) 3 36 [(3, 1, .int (l3 + (1 : Int32))), (2, 1, .int (l2 + (1 : Int32))), (0, 1, va_rf l0), (1, 1, .int l1)] dX24_often_33 rfl rfl (Nat.le_of_ble_eq_true rfl) (by rw [kic_1]) rfl ?_
        refine J_goto 4 dX24_often_36 (by decide) ?_
        refine J.pick [2, 3, 1, 0] rfl ?_
        exact ih (l2 + (1 : Int32)) (l3 + (1 : Int32)) σ h
def X24_often (l0 : Option Nat) (l1 : Int32) (σ : Hp) : Option (Int32 × Hp) :=
  X24_often_c4 l0 l1  FUEL (0 : Int32) (0 : Int32) σ
set_option maxHeartbeats 4000000 in
theorem sX24_often {γ : GP} (hγ : GOK γ) (l0 : Option Nat) (l1 : Int32) (σ : Hp) (q : (Int32 × Hp)) (h : X24_often l0 l1 σ = some q) : Rn γ mX24_often yX24_often [va_rf l0, .int l1] (σ, .inr (some (.int q.1)), q.2) := by
  refine J_m hγ ykX24_often rfl [(1, va_rf l0), (1, .int l1)] (cats_r (cats_i cats_nil)) (Nat.le_of_ble_eq_true rfl) ?_
  show J γ mX24_often _ σ 0 [(0, 1, va_rf l0), (1, 1, .int l1)] []
  unfold X24_often at h
  refine J_ic 1 dX24_often_0 rfl (0 : Int32) kic_0 ?_
  refine J_istore_n (i := 2) 2 [(2, 1, .int (0 : Int32)), (0, 1, va_rf l0), (1, 1, .int l1)] dX24_often_1 rfl rfl (Nat.le_of_ble_eq_true rfl) rfl ?_
  refine J_ic 3 dX24_often_2 rfl (0 : Int32) kic_0 ?_
  refine J_istore_n (i := 3) 4 [(3, 1, .int (0 : Int32)), (2, 1, .int (0 : Int32)), (0, 1, va_rf l0), (1, 1, .int l1)] dX24_often_3 rfl rfl (Nat.le_of_ble_eq_true rfl) rfl ?_
  refine J.pick [2, 3, 1, 0] rfl ?_
  refine jX24_often_c4 hγ l0 l1  FUEL (0 : Int32) (0 : Int32) σ h
abbrev mX24_again : MP := (cX24_again, "MissCurves$Held", 3, (Option.some FieldType.int), 0, "again", [])
theorem ykX24_again : YK yX24_again mX24_again 1 := ⟨q1952, q173, ⟨by decide, by decide⟩, by decide +kernel, Nat.le_of_ble_eq_true rfl, by decide, rfl, rfl⟩
theorem fk_x_169 : FOK "MissCurves$Held" 40 [3] 7 isI := FOK.one (by decide) rfl (Nat.le_of_ble_eq_true rfl) (Or.inr ⟨_, q252⟩) rfl
def X24_again_c7 (l0 : Option Nat) (l1 : Int32)  : Nat → Int32 → Hp → Option (Int32 × Hp)
  | 0, _, _ => none
  | n + 1, l2, σ =>
    (gR σ l0 [24] 3).bind fun v1 =>
    (gI σ v1 [3] 7).bind fun v2 =>
    if v2 ≤ l2 then
      some (l2, σ)
    else
      (gR σ l0 [24] 3).bind fun v4 =>
      (gR σ v4 [3] 3).bind fun v5 =>
      (aI 0 σ v5 l2).bind fun v6 =>
      if v6 = l1 then
        some (l2, σ)
      else
        X24_again_c7 l0 l1 n (l2 + (1 : Int32)) σ
set_option maxHeartbeats 4000000 in
theorem jX24_again_c7 {γ : GP} {σ0 : Hp} {q : (Int32 × Hp)} (hγ : GOK γ) (l0 : Option Nat) (l1 : Int32)  : ∀ (n : Nat) (l2 : Int32) (σ : Hp), X24_again_c7 l0 l1 n l2 σ = some q → J γ mX24_again (σ0, .inr (some (.int q.1)), q.2) σ 7 [(0, 1, va_rf l0), (1, 1, .int l1), (2, 1, .int l2)] [] := by
  intro n
  induction n with
  | zero => intro l2 σ h; exact nomatch (show none = some q from h)
  | succ n ih =>
    intro l2 σ h
    rw [X24_again_c7] at h
    refine J_iload_n (i := 2) 2 8 dX24_again_7 rfl rfl rfl ?_
    refine J_aload_n (i := 0) 0 9 dX24_again_8 rfl rfl rfl ?_
    obtain ⟨v1, hv1, h⟩ := some_of_bind h
    refine J_gR 12 dX24_again_9 rfl fk_x_167 hv1 ?_
    obtain ⟨v2, hv2, h⟩ := some_of_bind h
    refine J_gI 15 dX24_again_12 rfl fk_x_169 hv2 ?_
    refine J_icmp_ge 37 18 dX24_again_15 (by decide) rfl (fun c3 => ?_) (fun c3 => ?_)
    · rw [if_pos c3] at h
      refine J_iload_n (i := 2) 2 38 dX24_again_37 rfl rfl rfl ?_
      exact J_iret rfl dX24_again_38 (retI h)
    · rw [if_neg c3] at h
      refine J_aload_n (i := 0) 0 19 dX24_again_18 rfl rfl rfl ?_
      obtain ⟨v4, hv4, h⟩ := some_of_bind h
      refine J_gR 22 dX24_again_19 rfl fk_x_167 hv4 ?_
      obtain ⟨v5, hv5, h⟩ := some_of_bind h
      refine J_gR 25 dX24_again_22 rfl fk_x_168 hv5 ?_
      refine J_iload_n (i := 2) 2 26 dX24_again_25 rfl rfl rfl ?_
      obtain ⟨v6, hv6, h⟩ := some_of_bind h
      refine J_iald 27 dX24_again_26 rfl hv6 ?_
      refine J_iload_n (i := 1) 1 28 dX24_again_27 rfl rfl rfl ?_
      refine J_icmp_eq 37 31 dX24_again_28 (by decide) rfl (fun c7 => ?_) (fun c7 => ?_)
      · rw [if_pos c7] at h
        refine J_iload_n (i := 2) 2 38 dX24_again_37 rfl rfl rfl ?_
        exact J_iret rfl dX24_again_38 (retI h)
      · rw [if_neg c7] at h
        refine J_iinc (i := 2) (v := l2 + (1 : Int32)) 2 34 [(2, 1, .int (l2 + (1 : Int32))), (0, 1, va_rf l0), (1, 1, .int l1)] dX24_again_31 rfl rfl (Nat.le_of_ble_eq_true rfl) (by rw [kic_1]) rfl ?_
        refine J_goto 7 dX24_again_34 (by decide) ?_
        refine J.pick [1, 2, 0] rfl ?_
        exact ih (l2 + (1 : Int32)) σ h
def X24_again (l0 : Option Nat) (l1 : Int32) (σ : Hp) : Option (Int32 × Hp) :=
  (gI σ l0 [24] 6).bind fun v1 =>
  X24_again_c7 l0 l1  FUEL (v1 + (1 : Int32)) σ
set_option maxHeartbeats 4000000 in
theorem sX24_again {γ : GP} (hγ : GOK γ) (l0 : Option Nat) (l1 : Int32) (σ : Hp) (q : (Int32 × Hp)) (h : X24_again l0 l1 σ = some q) : Rn γ mX24_again yX24_again [va_rf l0, .int l1] (σ, .inr (some (.int q.1)), q.2) := by
  refine J_m hγ ykX24_again rfl [(1, va_rf l0), (1, .int l1)] (cats_r (cats_i cats_nil)) (Nat.le_of_ble_eq_true rfl) ?_
  show J γ mX24_again _ σ 0 [(0, 1, va_rf l0), (1, 1, .int l1)] []
  unfold X24_again at h
  refine J_aload_n (i := 0) 0 1 dX24_again_0 rfl rfl rfl ?_
  obtain ⟨v1, hv1, h⟩ := some_of_bind h
  refine J_gI 4 dX24_again_1 rfl fk_x_166 hv1 ?_
  refine J_ic 5 dX24_again_4 rfl (1 : Int32) kic_1 ?_
  refine J_iadd 6 dX24_again_5 rfl ?_
  refine J_istore_n (i := 2) 7 [(2, 1, .int (v1 + (1 : Int32))), (0, 1, va_rf l0), (1, 1, .int l1)] dX24_again_6 rfl rfl (Nat.le_of_ble_eq_true rfl) rfl ?_
  refine J.pick [1, 2, 0] rfl ?_
  refine jX24_again_c7 hγ l0 l1  FUEL (v1 + (1 : Int32)) σ h
abbrev mX25_rank : MP := (cX25_rank, "MissCurves$Oldest", 3, (Option.some FieldType.int), 0, "rank", [])
theorem ykX25_rank : YK yX25_rank mX25_rank 2 := ⟨q1970, q174, ⟨by decide, by decide⟩, by decide +kernel, Nat.le_of_ble_eq_true rfl, by decide, rfl, rfl⟩
theorem fk_x_170 : FOK "MissCurves$Oldest" 7 [24] 1 isR := FOK.one (by decide) rfl (Nat.le_of_ble_eq_true rfl) (Or.inr ⟨_, q1861⟩) rfl
def X25_rank (l0 : Option Nat) (l1 : Option Nat) (l2 : Int32) (σ : Hp) : Option (Int32 × Hp) :=
  (gR σ l1 [24] 1).bind fun v1 =>
  (aI 0 σ v1 l2).bind fun v2 =>
  some (v2, σ)
set_option maxHeartbeats 4000000 in
theorem sX25_rank {γ : GP} (hγ : GOK γ) (l0 : Option Nat) (l1 : Option Nat) (l2 : Int32) (σ : Hp) (q : (Int32 × Hp)) (h : X25_rank l0 l1 l2 σ = some q) : Rn γ mX25_rank yX25_rank [va_rf l0, va_rf l1, .int l2] (σ, .inr (some (.int q.1)), q.2) := by
  refine J_m hγ ykX25_rank rfl [(1, va_rf l0), (1, va_rf l1), (1, .int l2)] (cats_r (cats_r (cats_i cats_nil))) (Nat.le_of_ble_eq_true rfl) ?_
  show J γ mX25_rank _ σ 0 [(0, 1, va_rf l0), (1, 1, va_rf l1), (2, 1, .int l2)] []
  unfold X25_rank at h
  refine J_aload_n (i := 1) 1 1 dX25_rank_0 rfl rfl rfl ?_
  obtain ⟨v1, hv1, h⟩ := some_of_bind h
  refine J_gR 4 dX25_rank_1 rfl fk_x_170 hv1 ?_
  refine J_iload_n (i := 2) 2 5 dX25_rank_4 rfl rfl rfl ?_
  obtain ⟨v2, hv2, h⟩ := some_of_bind h
  refine J_iald 6 dX25_rank_5 rfl hv2 ?_
  exact J_iret rfl dX25_rank_6 (retI h)
abbrev mX26_rank : MP := (cX26_rank, "MissCurves$Newest", 3, (Option.some FieldType.int), 0, "rank", [])
theorem ykX26_rank : YK yX26_rank mX26_rank 2 := ⟨q1964, q175, ⟨by decide, by decide⟩, by decide +kernel, Nat.le_of_ble_eq_true rfl, by decide, rfl, rfl⟩
theorem fk_x_171 : FOK "MissCurves$Newest" 7 [24] 1 isR := FOK.one (by decide) rfl (Nat.le_of_ble_eq_true rfl) (Or.inr ⟨_, q1860⟩) rfl
def X26_rank (l0 : Option Nat) (l1 : Option Nat) (l2 : Int32) (σ : Hp) : Option (Int32 × Hp) :=
  (gR σ l1 [24] 1).bind fun v1 =>
  (aI 0 σ v1 l2).bind fun v2 =>
  some ((-v2), σ)
set_option maxHeartbeats 4000000 in
theorem sX26_rank {γ : GP} (hγ : GOK γ) (l0 : Option Nat) (l1 : Option Nat) (l2 : Int32) (σ : Hp) (q : (Int32 × Hp)) (h : X26_rank l0 l1 l2 σ = some q) : Rn γ mX26_rank yX26_rank [va_rf l0, va_rf l1, .int l2] (σ, .inr (some (.int q.1)), q.2) := by
  refine J_m hγ ykX26_rank rfl [(1, va_rf l0), (1, va_rf l1), (1, .int l2)] (cats_r (cats_r (cats_i cats_nil))) (Nat.le_of_ble_eq_true rfl) ?_
  show J γ mX26_rank _ σ 0 [(0, 1, va_rf l0), (1, 1, va_rf l1), (2, 1, .int l2)] []
  unfold X26_rank at h
  refine J_aload_n (i := 1) 1 1 dX26_rank_0 rfl rfl rfl ?_
  obtain ⟨v1, hv1, h⟩ := some_of_bind h
  refine J_gR 4 dX26_rank_1 rfl fk_x_171 hv1 ?_
  refine J_iload_n (i := 2) 2 5 dX26_rank_4 rfl rfl rfl ?_
  obtain ⟨v2, hv2, h⟩ := some_of_bind h
  refine J_iald 6 dX26_rank_5 rfl hv2 ?_
  refine J_ineg 7 dX26_rank_6 rfl ?_
  exact J_iret rfl dX26_rank_7 (retI h)
abbrev mX27_rank : MP := (cX27_rank, "MissCurves$Longest", 3, (Option.some FieldType.int), 0, "rank", [])
theorem ykX27_rank : YK yX27_rank mX27_rank 2 := ⟨q1958, q176, ⟨by decide, by decide⟩, by decide +kernel, Nat.le_of_ble_eq_true rfl, by decide, rfl, rfl⟩
theorem fk_x_172 : FOK "MissCurves$Longest" 7 [24] 2 isR := FOK.one (by decide) rfl (Nat.le_of_ble_eq_true rfl) (Or.inr ⟨_, q1864⟩) rfl
def X27_rank (l0 : Option Nat) (l1 : Option Nat) (l2 : Int32) (σ : Hp) : Option (Int32 × Hp) :=
  (gR σ l1 [24] 2).bind fun v1 =>
  (aI 0 σ v1 l2).bind fun v2 =>
  some (v2, σ)
set_option maxHeartbeats 4000000 in
theorem sX27_rank {γ : GP} (hγ : GOK γ) (l0 : Option Nat) (l1 : Option Nat) (l2 : Int32) (σ : Hp) (q : (Int32 × Hp)) (h : X27_rank l0 l1 l2 σ = some q) : Rn γ mX27_rank yX27_rank [va_rf l0, va_rf l1, .int l2] (σ, .inr (some (.int q.1)), q.2) := by
  refine J_m hγ ykX27_rank rfl [(1, va_rf l0), (1, va_rf l1), (1, .int l2)] (cats_r (cats_r (cats_i cats_nil))) (Nat.le_of_ble_eq_true rfl) ?_
  show J γ mX27_rank _ σ 0 [(0, 1, va_rf l0), (1, 1, va_rf l1), (2, 1, .int l2)] []
  unfold X27_rank at h
  refine J_aload_n (i := 1) 1 1 dX27_rank_0 rfl rfl rfl ?_
  obtain ⟨v1, hv1, h⟩ := some_of_bind h
  refine J_gR 4 dX27_rank_1 rfl fk_x_172 hv1 ?_
  refine J_iload_n (i := 2) 2 5 dX27_rank_4 rfl rfl rfl ?_
  obtain ⟨v2, hv2, h⟩ := some_of_bind h
  refine J_iald 6 dX27_rank_5 rfl hv2 ?_
  exact J_iret rfl dX27_rank_6 (retI h)
abbrev mX28_rank : MP := (cX28_rank, "MissCurves$Rarest", 3, (Option.some FieldType.int), 1, "rank", [])
theorem ykX28_rank : YK yX28_rank mX28_rank 2 := ⟨q1976, q177, ⟨by decide, by decide⟩, by decide +kernel, Nat.le_of_ble_eq_true rfl, by decide, rfl, rfl⟩
theorem fk_x_173 : FOK "MissCurves$Rarest" 7 [24] 0 isR := FOK.one (by decide) rfl (Nat.le_of_ble_eq_true rfl) (Or.inr ⟨_, q1858⟩) rfl
def X28_rank (l0 : Option Nat) (l1 : Option Nat) (l2 : Int32) (σ : Hp) : Option (Int32 × Hp) :=
  (gR σ l1 [24] 0).bind fun v1 =>
  (aI 0 σ v1 l2).bind fun v2 =>
  (cT σ l1 24).bind fun b4 =>
  (X24_often l1 v2 σ).bind fun q3 =>
  some (q3.1, q3.2)
set_option maxHeartbeats 4000000 in
theorem sX28_rank {γ : GP} (hγ : GOK γ) (l0 : Option Nat) (l1 : Option Nat) (l2 : Int32) (σ : Hp) (q : (Int32 × Hp)) (h : X28_rank l0 l1 l2 σ = some q) : Rn γ mX28_rank yX28_rank [va_rf l0, va_rf l1, .int l2] (σ, .inr (some (.int q.1)), q.2) := by
  refine J_m hγ ykX28_rank rfl [(1, va_rf l0), (1, va_rf l1), (1, .int l2)] (cats_r (cats_r (cats_i cats_nil))) (Nat.le_of_ble_eq_true rfl) ?_
  show J γ mX28_rank _ σ 0 [(0, 1, va_rf l0), (1, 1, va_rf l1), (2, 1, .int l2)] []
  unfold X28_rank at h
  refine J_aload_n (i := 1) 1 1 dX28_rank_0 rfl rfl rfl ?_
  refine J_aload_n (i := 1) 1 2 dX28_rank_1 rfl rfl rfl ?_
  obtain ⟨v1, hv1, h⟩ := some_of_bind h
  refine J_gR 5 dX28_rank_2 rfl fk_x_173 hv1 ?_
  refine J_iload_n (i := 2) 2 6 dX28_rank_5 rfl rfl rfl ?_
  obtain ⟨v2, hv2, h⟩ := some_of_bind h
  refine J_iald 7 dX28_rank_6 rfl hv2 ?_
  obtain ⟨b4, hb4, h⟩ := some_of_bind h
  obtain ⟨q3, hq3, h⟩ := some_of_bind h
  refine J_cVi 10 dX28_rank_7 rfl ykX24_often (Or.inl q1977) q1978 q1979 (Nat.le_of_ble_eq_true rfl) cs_nil (by decide) [.int v2] hb4 (by decide) rfl rfl rfl (sX24_often hγ l1 v2 σ q3 hq3) ?_
  exact J_iret rfl dX28_rank_10 (retI h)
abbrev mX29_rank : MP := (cX29_rank, "MissCurves$Latest", 3, (Option.some FieldType.int), 1, "rank", [])
theorem ykX29_rank : YK yX29_rank mX29_rank 2 := ⟨q1948, q178, ⟨by decide, by decide⟩, by decide +kernel, Nat.le_of_ble_eq_true rfl, by decide, rfl, rfl⟩
theorem fk_x_174 : FOK "MissCurves$Latest" 7 [24] 0 isR := FOK.one (by decide) rfl (Nat.le_of_ble_eq_true rfl) (Or.inr ⟨_, q1857⟩) rfl
def X29_rank (l0 : Option Nat) (l1 : Option Nat) (l2 : Int32) (σ : Hp) : Option (Int32 × Hp) :=
  (gR σ l1 [24] 0).bind fun v1 =>
  (aI 0 σ v1 l2).bind fun v2 =>
  (cT σ l1 24).bind fun b4 =>
  (X24_again l1 v2 σ).bind fun q3 =>
  some ((-q3.1), q3.2)
set_option maxHeartbeats 4000000 in
theorem sX29_rank {γ : GP} (hγ : GOK γ) (l0 : Option Nat) (l1 : Option Nat) (l2 : Int32) (σ : Hp) (q : (Int32 × Hp)) (h : X29_rank l0 l1 l2 σ = some q) : Rn γ mX29_rank yX29_rank [va_rf l0, va_rf l1, .int l2] (σ, .inr (some (.int q.1)), q.2) := by
  refine J_m hγ ykX29_rank rfl [(1, va_rf l0), (1, va_rf l1), (1, .int l2)] (cats_r (cats_r (cats_i cats_nil))) (Nat.le_of_ble_eq_true rfl) ?_
  show J γ mX29_rank _ σ 0 [(0, 1, va_rf l0), (1, 1, va_rf l1), (2, 1, .int l2)] []
  unfold X29_rank at h
  refine J_aload_n (i := 1) 1 1 dX29_rank_0 rfl rfl rfl ?_
  refine J_aload_n (i := 1) 1 2 dX29_rank_1 rfl rfl rfl ?_
  obtain ⟨v1, hv1, h⟩ := some_of_bind h
  refine J_gR 5 dX29_rank_2 rfl fk_x_174 hv1 ?_
  refine J_iload_n (i := 2) 2 6 dX29_rank_5 rfl rfl rfl ?_
  obtain ⟨v2, hv2, h⟩ := some_of_bind h
  refine J_iald 7 dX29_rank_6 rfl hv2 ?_
  obtain ⟨b4, hb4, h⟩ := some_of_bind h
  obtain ⟨q3, hq3, h⟩ := some_of_bind h
  refine J_cVi 10 dX29_rank_7 rfl ykX24_again (Or.inl q1949) q1950 q1951 (Nat.le_of_ble_eq_true rfl) cs_nil (by decide) [.int v2] hb4 (by decide) rfl rfl rfl (sX24_again hγ l1 v2 σ q3 hq3) ?_
  refine J_ineg 11 dX29_rank_10 rfl ?_
  exact J_iret rfl dX29_rank_11 (retI h)
abbrev mX29_isAhead : MP := (cX29_isAhead, "MissCurves$Latest", 4, (Option.some FieldType.boolean), 0, "isAhead", [])
theorem ykX29_isAhead : YK yX29_isAhead mX29_isAhead 3 := ⟨q1989, q178, ⟨by decide, by decide⟩, by decide +kernel, Nat.le_of_ble_eq_true rfl, by decide, rfl, rfl⟩
def X29_isAhead (l0 : Option Nat) (l1 : Option Nat) (l2 : Int32) (l3 : Int32) (σ : Hp) : Option (Int32 × Hp) :=
  (gR σ l1 [24] 0).bind fun v1 =>
  (aI 0 σ v1 l2).bind fun v2 =>
  (gR σ l1 [24] 0).bind fun v3 =>
  (aI 0 σ v3 l3).bind fun v4 =>
  if v4 ≤ v2 then
    some ((0 : Int32), σ)
  else
    some ((1 : Int32), σ)
set_option maxHeartbeats 4000000 in
theorem sX29_isAhead {γ : GP} (hγ : GOK γ) (l0 : Option Nat) (l1 : Option Nat) (l2 : Int32) (l3 : Int32) (σ : Hp) (q : (Int32 × Hp)) (h : X29_isAhead l0 l1 l2 l3 σ = some q) : Rn γ mX29_isAhead yX29_isAhead [va_rf l0, va_rf l1, .int l2, .int l3] (σ, .inr (some (.int q.1)), q.2) := by
  refine J_m hγ ykX29_isAhead rfl [(1, va_rf l0), (1, va_rf l1), (1, .int l2), (1, .int l3)] (cats_r (cats_r (cats_i (cats_i cats_nil)))) (Nat.le_of_ble_eq_true rfl) ?_
  show J γ mX29_isAhead _ σ 0 [(0, 1, va_rf l0), (1, 1, va_rf l1), (2, 1, .int l2), (3, 1, .int l3)] []
  unfold X29_isAhead at h
  refine J_aload_n (i := 1) 1 1 dX29_isAhead_0 rfl rfl rfl ?_
  obtain ⟨v1, hv1, h⟩ := some_of_bind h
  refine J_gR 4 dX29_isAhead_1 rfl fk_x_174 hv1 ?_
  refine J_iload_n (i := 2) 2 5 dX29_isAhead_4 rfl rfl rfl ?_
  obtain ⟨v2, hv2, h⟩ := some_of_bind h
  refine J_iald 6 dX29_isAhead_5 rfl hv2 ?_
  refine J_aload_n (i := 1) 1 7 dX29_isAhead_6 rfl rfl rfl ?_
  obtain ⟨v3, hv3, h⟩ := some_of_bind h
  refine J_gR 10 dX29_isAhead_7 rfl fk_x_174 hv3 ?_
  refine J_iload_n (i := 3) 3 11 dX29_isAhead_10 rfl rfl rfl ?_
  obtain ⟨v4, hv4, h⟩ := some_of_bind h
  refine J_iald 12 dX29_isAhead_11 rfl hv4 ?_
  refine J_icmp_ge 19 15 dX29_isAhead_12 (by decide) rfl (fun c5 => ?_) (fun c5 => ?_)
  · rw [if_pos c5] at h
    refine J_ic 20 dX29_isAhead_19 rfl (0 : Int32) kic_0 ?_
    exact J_zret rfl (by decide) dX29_isAhead_20 (retI h)
  · rw [if_neg c5] at h
    refine J_ic 16 dX29_isAhead_15 rfl (1 : Int32) kic_1 ?_
    refine J_goto 20 dX29_isAhead_16 (by decide) ?_
    exact J_zret rfl (by decide) dX29_isAhead_20 (retI h)
abbrev mX8_isAhead : MP := (cX8_isAhead, "MissCurves$Leaving", 4, (Option.some FieldType.boolean), 0, "isAhead", [])
theorem ykX8_isAhead : YK yX8_isAhead mX8_isAhead 3 := ⟨q1993, q155, ⟨by decide, by decide⟩, by decide +kernel, Nat.le_of_ble_eq_true rfl, by decide, rfl, rfl⟩
theorem fk_x_175 : FOK "MissCurves$Leaving" 19 [24] 1 isR := FOK.one (by decide) rfl (Nat.le_of_ble_eq_true rfl) (Or.inr ⟨_, q1862⟩) rfl
def X8_isAhead (l0 : Option Nat) (l1 : Option Nat) (l2 : Int32) (l3 : Int32) (σ : Hp) : Option (Int32 × Hp) :=
  (gR σ l1 [24] 1).bind fun v1 =>
  (aI 0 σ v1 l2).bind fun v2 =>
  (gR σ l1 [24] 1).bind fun v3 =>
  (aI 0 σ v3 l3).bind fun v4 =>
  if v4 ≤ v2 then
    some ((0 : Int32), σ)
  else
    some ((1 : Int32), σ)
set_option maxHeartbeats 4000000 in
theorem sX8_isAhead {γ : GP} (hγ : GOK γ) (l0 : Option Nat) (l1 : Option Nat) (l2 : Int32) (l3 : Int32) (σ : Hp) (q : (Int32 × Hp)) (h : X8_isAhead l0 l1 l2 l3 σ = some q) : Rn γ mX8_isAhead yX8_isAhead [va_rf l0, va_rf l1, .int l2, .int l3] (σ, .inr (some (.int q.1)), q.2) := by
  refine J_m hγ ykX8_isAhead rfl [(1, va_rf l0), (1, va_rf l1), (1, .int l2), (1, .int l3)] (cats_r (cats_r (cats_i (cats_i cats_nil)))) (Nat.le_of_ble_eq_true rfl) ?_
  show J γ mX8_isAhead _ σ 0 [(0, 1, va_rf l0), (1, 1, va_rf l1), (2, 1, .int l2), (3, 1, .int l3)] []
  unfold X8_isAhead at h
  refine J_aload_n (i := 1) 1 1 dX8_isAhead_0 rfl rfl rfl ?_
  obtain ⟨v1, hv1, h⟩ := some_of_bind h
  refine J_gR 4 dX8_isAhead_1 rfl fk_x_175 hv1 ?_
  refine J_iload_n (i := 2) 2 5 dX8_isAhead_4 rfl rfl rfl ?_
  obtain ⟨v2, hv2, h⟩ := some_of_bind h
  refine J_iald 6 dX8_isAhead_5 rfl hv2 ?_
  refine J_aload_n (i := 1) 1 7 dX8_isAhead_6 rfl rfl rfl ?_
  obtain ⟨v3, hv3, h⟩ := some_of_bind h
  refine J_gR 10 dX8_isAhead_7 rfl fk_x_175 hv3 ?_
  refine J_iload_n (i := 3) 3 11 dX8_isAhead_10 rfl rfl rfl ?_
  obtain ⟨v4, hv4, h⟩ := some_of_bind h
  refine J_iald 12 dX8_isAhead_11 rfl hv4 ?_
  refine J_icmp_ge 19 15 dX8_isAhead_12 (by decide) rfl (fun c5 => ?_) (fun c5 => ?_)
  · rw [if_pos c5] at h
    refine J_ic 20 dX8_isAhead_19 rfl (0 : Int32) kic_0 ?_
    exact J_zret rfl (by decide) dX8_isAhead_20 (retI h)
  · rw [if_neg c5] at h
    refine J_ic 16 dX8_isAhead_15 rfl (1 : Int32) kic_1 ?_
    refine J_goto 20 dX8_isAhead_16 (by decide) ?_
    exact J_zret rfl (by decide) dX8_isAhead_20 (retI h)
def vRank (x0 : Option Nat) (x1 : Option Nat) (x2 : Int32) (σ : Hp) : Option (Int32 × Hp) := x0.bind fun a => if htg σ a = 25 then X25_rank x0 x1 x2 σ else if htg σ a = 26 then X26_rank x0 x1 x2 σ else if htg σ a = 27 then X27_rank x0 x1 x2 σ else if htg σ a = 28 then X28_rank x0 x1 x2 σ else if htg σ a = 29 then X29_rank x0 x1 x2 σ else none
theorem svRank {γ : GP} (hγ : GOK γ) (x0 : Option Nat) (x1 : Option Nat) (x2 : Int32) (σ : Hp) (q : (Int32 × Hp)) (h : vRank x0 x1 x2 σ = some q) : UG γ 1 ({ cls := "MissCurves$Leaving", name := "rank", desc := "(LMissCurves$Held;I)I" } : MethodName) 2 x0 [va_rf x1, .int x2] (σ, .inr (some (.int q.1)), q.2) := by
  unfold vRank at h
  obtain ⟨a, ha, h⟩ := some_of_bind h
  rcases Classical.em (htg σ a = 25) with c0 | c0
  · rw [if_pos c0] at h
    exact Or.inl (UF.of (c9 := 25) (b := a) (show cT σ x0 25 = some a by rw [ha]; exact if_pos c0) (by decide) rfl ykX25_rank q1966 q1968 (show 0 ≤ 1 by omega) ⟨q1943, q1942, q1969, q1967, q1965⟩ (sX25_rank hγ x0 x1 x2 σ q h))
  · rw [if_neg c0] at h
    rcases Classical.em (htg σ a = 26) with c1 | c1
    · rw [if_pos c1] at h
      exact Or.inl (UF.of (c9 := 26) (b := a) (show cT σ x0 26 = some a by rw [ha]; exact if_pos c1) (by decide) rfl ykX26_rank q1960 q1962 (show 0 ≤ 1 by omega) ⟨q1943, q1942, q1963, q1961, q1959⟩ (sX26_rank hγ x0 x1 x2 σ q h))
    · rw [if_neg c1] at h
      rcases Classical.em (htg σ a = 27) with c2 | c2
      · rw [if_pos c2] at h
        exact Or.inl (UF.of (c9 := 27) (b := a) (show cT σ x0 27 = some a by rw [ha]; exact if_pos c2) (by decide) rfl ykX27_rank q1954 q1956 (show 0 ≤ 1 by omega) ⟨q1943, q1942, q1957, q1955, q1953⟩ (sX27_rank hγ x0 x1 x2 σ q h))
      · rw [if_neg c2] at h
        rcases Classical.em (htg σ a = 28) with c3 | c3
        · rw [if_pos c3] at h
          exact Or.inl (UF.of (c9 := 28) (b := a) (show cT σ x0 28 = some a by rw [ha]; exact if_pos c3) (by decide) rfl ykX28_rank q1972 q1974 (show 1 ≤ 1 by omega) ⟨q1943, q1942, q1975, q1973, q1971⟩ (sX28_rank hγ x0 x1 x2 σ q h))
        · rw [if_neg c3] at h
          rcases Classical.em (htg σ a = 29) with c4 | c4
          · rw [if_pos c4] at h
            exact Or.inl (UF.of (c9 := 29) (b := a) (show cT σ x0 29 = some a by rw [ha]; exact if_pos c4) (by decide) rfl ykX29_rank q1944 q1946 (show 1 ≤ 1 by omega) ⟨q1943, q1942, q1947, q1945, q1935⟩ (sX29_rank hγ x0 x1 x2 σ q h))
          · rw [if_neg c4] at h
            cases h
def vAhead (x0 : Option Nat) (x1 : Option Nat) (x2 : Int32) (x3 : Int32) (σ : Hp) : Option (Int32 × Hp) := x0.bind fun a => if htg σ a = 25 then X8_isAhead x0 x1 x2 x3 σ else if htg σ a = 26 then X8_isAhead x0 x1 x2 x3 σ else if htg σ a = 27 then X8_isAhead x0 x1 x2 x3 σ else if htg σ a = 28 then X8_isAhead x0 x1 x2 x3 σ else if htg σ a = 29 then X29_isAhead x0 x1 x2 x3 σ else none
theorem ld_vAhead_25 : Cond.landsInDefault "MissCurves$Oldest" ({ cls := "MissCurves$Leaving", name := "isAhead", desc := "(LMissCurves$Held;II)Z" } : MethodName) ({ cls := "MissCurves$Leaving", name := "isAhead", desc := "(LMissCurves$Held;II)Z" } : MethodName) ∈ ndf := by unfold ndf; decide +kernel
theorem ld_vAhead_26 : Cond.landsInDefault "MissCurves$Newest" ({ cls := "MissCurves$Leaving", name := "isAhead", desc := "(LMissCurves$Held;II)Z" } : MethodName) ({ cls := "MissCurves$Leaving", name := "isAhead", desc := "(LMissCurves$Held;II)Z" } : MethodName) ∈ ndf := by unfold ndf; decide +kernel
theorem ld_vAhead_27 : Cond.landsInDefault "MissCurves$Longest" ({ cls := "MissCurves$Leaving", name := "isAhead", desc := "(LMissCurves$Held;II)Z" } : MethodName) ({ cls := "MissCurves$Leaving", name := "isAhead", desc := "(LMissCurves$Held;II)Z" } : MethodName) ∈ ndf := by unfold ndf; decide +kernel
theorem ld_vAhead_28 : Cond.landsInDefault "MissCurves$Rarest" ({ cls := "MissCurves$Leaving", name := "isAhead", desc := "(LMissCurves$Held;II)Z" } : MethodName) ({ cls := "MissCurves$Leaving", name := "isAhead", desc := "(LMissCurves$Held;II)Z" } : MethodName) ∈ ndf := by unfold ndf; decide +kernel
theorem svAhead {γ : GP} (hγ : GOK γ) (x0 : Option Nat) (x1 : Option Nat) (x2 : Int32) (x3 : Int32) (σ : Hp) (q : (Int32 × Hp)) (h : vAhead x0 x1 x2 x3 σ = some q) : UG γ 0 ({ cls := "MissCurves$Leaving", name := "isAhead", desc := "(LMissCurves$Held;II)Z" } : MethodName) 3 x0 [va_rf x1, .int x2, .int x3] (σ, .inr (some (.int q.1)), q.2) := by
  unfold vAhead at h
  obtain ⟨a, ha, h⟩ := some_of_bind h
  rcases Classical.em (htg σ a = 25) with c0 | c0
  · rw [if_pos c0] at h
    exact Or.inr (UD.of (c9 := 25) (b := a) (show cT σ x0 25 = some a by rw [ha]; exact if_pos c0) (by decide) rfl ykX8_isAhead ld_vAhead_25 q1991 (show 0 ≤ 0 by omega) ⟨q1984, q1983, q1992, q1965⟩ (sX8_isAhead hγ x0 x1 x2 x3 σ q h))
  · rw [if_neg c0] at h
    rcases Classical.em (htg σ a = 26) with c1 | c1
    · rw [if_pos c1] at h
      exact Or.inr (UD.of (c9 := 26) (b := a) (show cT σ x0 26 = some a by rw [ha]; exact if_pos c1) (by decide) rfl ykX8_isAhead ld_vAhead_26 q1991 (show 0 ≤ 0 by omega) ⟨q1984, q1983, q1992, q1959⟩ (sX8_isAhead hγ x0 x1 x2 x3 σ q h))
    · rw [if_neg c1] at h
      rcases Classical.em (htg σ a = 27) with c2 | c2
      · rw [if_pos c2] at h
        exact Or.inr (UD.of (c9 := 27) (b := a) (show cT σ x0 27 = some a by rw [ha]; exact if_pos c2) (by decide) rfl ykX8_isAhead ld_vAhead_27 q1991 (show 0 ≤ 0 by omega) ⟨q1984, q1983, q1992, q1953⟩ (sX8_isAhead hγ x0 x1 x2 x3 σ q h))
      · rw [if_neg c2] at h
        rcases Classical.em (htg σ a = 28) with c3 | c3
        · rw [if_pos c3] at h
          exact Or.inr (UD.of (c9 := 28) (b := a) (show cT σ x0 28 = some a by rw [ha]; exact if_pos c3) (by decide) rfl ykX8_isAhead ld_vAhead_28 q1991 (show 0 ≤ 0 by omega) ⟨q1984, q1983, q1992, q1971⟩ (sX8_isAhead hγ x0 x1 x2 x3 σ q h))
        · rw [if_neg c3] at h
          rcases Classical.em (htg σ a = 29) with c4 | c4
          · rw [if_pos c4] at h
            exact Or.inl (UF.of (c9 := 29) (b := a) (show cT σ x0 29 = some a by rw [ha]; exact if_pos c4) (by decide) rfl ykX29_isAhead q1985 q1987 (show 0 ≤ 0 by omega) ⟨q1984, q1983, q1988, q1986, q1935⟩ (sX29_isAhead hγ x0 x1 x2 x3 σ q h))
          · rw [if_neg c4] at h
            cases h
abbrev mX8_who : MP := (cX8_who, "MissCurves$Leaving", 5, (Option.some FieldType.int), 2, "who", [])
theorem ykX8_who : YK yX8_who mX8_who 1 := ⟨q1939, q155, ⟨by decide, by decide⟩, by decide +kernel, Nat.le_of_ble_eq_true rfl, by decide, rfl, rfl⟩
theorem fk_x_176 : FOK "MissCurves$Leaving" 3 [24] 5 isI := FOK.one (by decide) rfl (Nat.le_of_ble_eq_true rfl) (Or.inr ⟨_, q1868⟩) rfl
def X8_who_c4 (l0 : Option Nat) (l1 : Option Nat)  : Nat → Int32 → Int32 → Hp → Option (Int32 × Hp)
  | 0, _, _, _ => none
  | n + 1, l2, l3, σ =>
    (gI σ l1 [24] 5).bind fun v1 =>
    if v1 ≤ l3 then
      some (l2, σ)
    else
      (vRank l0 l1 l3 σ).bind fun q3 =>
      (vRank l0 l1 l2 q3.2).bind fun q4 =>
      if (q3.1 - q4.1) < 0 then
        X8_who_c4 l0 l1 n l3 (l3 + (1 : Int32)) q4.2
      else
        if (q3.1 - q4.1) = 0 then
          (vAhead l0 l1 l3 l2 q4.2).bind fun q7 =>
          if q7.1 = 0 then
            X8_who_c4 l0 l1 n l2 (l3 + (1 : Int32)) q7.2
          else
            X8_who_c4 l0 l1 n l3 (l3 + (1 : Int32)) q7.2
        else
          X8_who_c4 l0 l1 n l2 (l3 + (1 : Int32)) q4.2
set_option maxHeartbeats 4000000 in
theorem jX8_who_c4 {γ : GP} {σ0 : Hp} {q : (Int32 × Hp)} (hγ : GOK γ) (l0 : Option Nat) (l1 : Option Nat)  : ∀ (n : Nat) (l2 : Int32) (l3 : Int32) (σ : Hp), X8_who_c4 l0 l1 n l2 l3 σ = some q → J γ mX8_who (σ0, .inr (some (.int q.1)), q.2) σ 4 [(0, 1, va_rf l0), (1, 1, va_rf l1), (2, 1, .int l2), (3, 1, .int l3)] [] := by
  intro n
  induction n with
  | zero => intro l2 l3 σ h; exact nomatch (show none = some q from h)
  | succ n ih =>
    intro l2 l3 σ h
    rw [X8_who_c4] at h
    refine J_iload_n (i := 3) 3 5 dX8_who_4 rfl rfl rfl ?_
    refine J_aload_n (i := 1) 1 6 dX8_who_5 rfl rfl rfl ?_
    obtain ⟨v1, hv1, h⟩ := some_of_bind h
    refine J_gI 9 dX8_who_6 rfl fk_x_176 hv1 ?_
    refine J_icmp_ge 65 12 dX8_who_9 (by decide) rfl (fun c2 => ?_) (fun c2 => ?_)
    · rw [if_pos c2] at h
      refine J_iload_n (i := 2) 2 66 dX8_who_65 rfl rfl rfl ?_
      exact J_iret rfl dX8_who_66 (retI h)
    · rw [if_neg c2] at h
      refine J_aload_n (i := 0) 0 13 dX8_who_12 rfl rfl rfl ?_
      refine J_aload_n (i := 1) 1 14 dX8_who_13 rfl rfl rfl ?_
      refine J_iload_n (i := 3) 3 15 dX8_who_14 rfl rfl rfl ?_
      obtain ⟨q3, hq3, h⟩ := some_of_bind h
      refine J_cGi (na := 2) 20 dX8_who_15 rfl q1941 ⟨by decide, by decide, by decide +kernel⟩ (show (1) + 1 ≤ 2 by omega) cs_nil (by decide) [va_rf l1, .int l3] rfl rfl (svRank hγ l0 l1 l3 σ q3 hq3) ?_
      refine J_aload_n (i := 0) 0 21 dX8_who_20 rfl rfl rfl ?_
      refine J_aload_n (i := 1) 1 22 dX8_who_21 rfl rfl rfl ?_
      refine J_iload_n (i := 2) 2 23 dX8_who_22 rfl rfl rfl ?_
      obtain ⟨q4, hq4, h⟩ := some_of_bind h
      refine J_cGi (na := 2) 28 dX8_who_23 rfl q1941 ⟨by decide, by decide, by decide +kernel⟩ (show (1) + 1 ≤ 2 by omega) (cs_int cs_nil) (by decide) [va_rf l1, .int l2] rfl rfl (svRank hγ l0 l1 l2 q3.2 q4 hq4) ?_
      refine J_isub 29 dX8_who_28 rfl ?_
      refine J_istore (i := 4) 31 [(4, 1, .int (q3.1 - q4.1)), (0, 1, va_rf l0), (1, 1, va_rf l1), (2, 1, .int l2), (3, 1, .int l3)] dX8_who_29 rfl (Nat.le_of_ble_eq_true rfl) rfl ?_
      refine J_iload (i := 4) 0 33 dX8_who_31 rfl rfl ?_
      refine J_if_lt 53 36 dX8_who_33 (by decide) rfl (fun c5 => ?_) (fun c5 => ?_)
      · rw [if_pos c5] at h
        refine J_iload_n (i := 3) 4 54 dX8_who_53 rfl rfl rfl ?_
        refine J_goto 58 dX8_who_54 (by decide) ?_
        refine J_istore_n (i := 2) 59 [(2, 1, .int l3), (4, 1, .int (q3.1 - q4.1)), (0, 1, va_rf l0), (1, 1, va_rf l1), (3, 1, .int l3)] dX8_who_58 rfl rfl (Nat.le_of_ble_eq_true rfl) rfl ?_
        refine J_iinc (i := 3) (v := l3 + (1 : Int32)) 4 62 [(3, 1, .int (l3 + (1 : Int32))), (2, 1, .int l3), (4, 1, .int (q3.1 - q4.1)), (0, 1, va_rf l0), (1, 1, va_rf l1)] dX8_who_59 rfl rfl (Nat.le_of_ble_eq_true rfl) (by rw [kic_1]) rfl ?_
        refine J_goto 4 dX8_who_62 (by decide) ?_
        refine J.pick [3, 4, 1, 0] rfl ?_
        exact ih l3 (l3 + (1 : Int32)) q4.2 h
      · rw [if_neg c5] at h
        refine J_iload (i := 4) 0 38 dX8_who_36 rfl rfl ?_
        refine J_if_ne 57 41 dX8_who_38 (by decide) rfl (fun c6 => ?_) (fun c6 => ?_)
        · rw [if_neg c6] at h
          refine J_iload_n (i := 2) 3 58 dX8_who_57 rfl rfl rfl ?_
          refine J_istore_n (i := 2) 59 [(2, 1, .int l2), (4, 1, .int (q3.1 - q4.1)), (0, 1, va_rf l0), (1, 1, va_rf l1), (3, 1, .int l3)] dX8_who_58 rfl rfl (Nat.le_of_ble_eq_true rfl) rfl ?_
          refine J_iinc (i := 3) (v := l3 + (1 : Int32)) 4 62 [(3, 1, .int (l3 + (1 : Int32))), (2, 1, .int l2), (4, 1, .int (q3.1 - q4.1)), (0, 1, va_rf l0), (1, 1, va_rf l1)] dX8_who_59 rfl rfl (Nat.le_of_ble_eq_true rfl) (by rw [kic_1]) rfl ?_
          refine J_goto 4 dX8_who_62 (by decide) ?_
          refine J.pick [3, 4, 1, 0] rfl ?_
          exact ih l2 (l3 + (1 : Int32)) q4.2 h
        · rw [if_pos c6] at h
          refine J_aload_n (i := 0) 1 42 dX8_who_41 rfl rfl rfl ?_
          refine J_aload_n (i := 1) 2 43 dX8_who_42 rfl rfl rfl ?_
          refine J_iload_n (i := 3) 4 44 dX8_who_43 rfl rfl rfl ?_
          refine J_iload_n (i := 2) 3 45 dX8_who_44 rfl rfl rfl ?_
          obtain ⟨q7, hq7, h⟩ := some_of_bind h
          refine J_cGi (na := 3) 50 dX8_who_45 rfl q1982 ⟨by decide, by decide, by decide +kernel⟩ (show (0) + 1 ≤ 2 by omega) cs_nil (by decide) [va_rf l1, .int l3, .int l2] rfl rfl (svAhead hγ l0 l1 l3 l2 q4.2 q7 hq7) ?_
          refine J_if_eq 57 53 dX8_who_50 (by decide) rfl (fun c8 => ?_) (fun c8 => ?_)
          · rw [if_pos c8] at h
            refine J_iload_n (i := 2) 3 58 dX8_who_57 rfl rfl rfl ?_
            refine J_istore_n (i := 2) 59 [(2, 1, .int l2), (4, 1, .int (q3.1 - q4.1)), (0, 1, va_rf l0), (1, 1, va_rf l1), (3, 1, .int l3)] dX8_who_58 rfl rfl (Nat.le_of_ble_eq_true rfl) rfl ?_
            refine J_iinc (i := 3) (v := l3 + (1 : Int32)) 4 62 [(3, 1, .int (l3 + (1 : Int32))), (2, 1, .int l2), (4, 1, .int (q3.1 - q4.1)), (0, 1, va_rf l0), (1, 1, va_rf l1)] dX8_who_59 rfl rfl (Nat.le_of_ble_eq_true rfl) (by rw [kic_1]) rfl ?_
            refine J_goto 4 dX8_who_62 (by decide) ?_
            refine J.pick [3, 4, 1, 0] rfl ?_
            exact ih l2 (l3 + (1 : Int32)) q7.2 h
          · rw [if_neg c8] at h
            refine J_iload_n (i := 3) 4 54 dX8_who_53 rfl rfl rfl ?_
            refine J_goto 58 dX8_who_54 (by decide) ?_
            refine J_istore_n (i := 2) 59 [(2, 1, .int l3), (4, 1, .int (q3.1 - q4.1)), (0, 1, va_rf l0), (1, 1, va_rf l1), (3, 1, .int l3)] dX8_who_58 rfl rfl (Nat.le_of_ble_eq_true rfl) rfl ?_
            refine J_iinc (i := 3) (v := l3 + (1 : Int32)) 4 62 [(3, 1, .int (l3 + (1 : Int32))), (2, 1, .int l3), (4, 1, .int (q3.1 - q4.1)), (0, 1, va_rf l0), (1, 1, va_rf l1)] dX8_who_59 rfl rfl (Nat.le_of_ble_eq_true rfl) (by rw [kic_1]) rfl ?_
            refine J_goto 4 dX8_who_62 (by decide) ?_
            refine J.pick [3, 4, 1, 0] rfl ?_
            exact ih l3 (l3 + (1 : Int32)) q7.2 h
def X8_who (l0 : Option Nat) (l1 : Option Nat) (σ : Hp) : Option (Int32 × Hp) :=
  X8_who_c4 l0 l1  FUEL (0 : Int32) (1 : Int32) σ
set_option maxHeartbeats 4000000 in
theorem sX8_who {γ : GP} (hγ : GOK γ) (l0 : Option Nat) (l1 : Option Nat) (σ : Hp) (q : (Int32 × Hp)) (h : X8_who l0 l1 σ = some q) : Rn γ mX8_who yX8_who [va_rf l0, va_rf l1] (σ, .inr (some (.int q.1)), q.2) := by
  refine J_m hγ ykX8_who rfl [(1, va_rf l0), (1, va_rf l1)] (cats_r (cats_r cats_nil)) (Nat.le_of_ble_eq_true rfl) ?_
  show J γ mX8_who _ σ 0 [(0, 1, va_rf l0), (1, 1, va_rf l1)] []
  unfold X8_who at h
  refine J_ic 1 dX8_who_0 rfl (0 : Int32) kic_0 ?_
  refine J_istore_n (i := 2) 2 [(2, 1, .int (0 : Int32)), (0, 1, va_rf l0), (1, 1, va_rf l1)] dX8_who_1 rfl rfl (Nat.le_of_ble_eq_true rfl) rfl ?_
  refine J_ic 3 dX8_who_2 rfl (1 : Int32) kic_1 ?_
  refine J_istore_n (i := 3) 4 [(3, 1, .int (1 : Int32)), (2, 1, .int (0 : Int32)), (0, 1, va_rf l0), (1, 1, va_rf l1)] dX8_who_3 rfl rfl (Nat.le_of_ble_eq_true rfl) rfl ?_
  refine J.pick [2, 3, 1, 0] rfl ?_
  refine jX8_who_c4 hγ l0 l1  FUEL (0 : Int32) (1 : Int32) σ h
def vWho (x0 : Option Nat) (x1 : Option Nat) (σ : Hp) : Option (Int32 × Hp) := x0.bind fun a => if htg σ a = 25 then X8_who x0 x1 σ else if htg σ a = 26 then X8_who x0 x1 σ else if htg σ a = 27 then X8_who x0 x1 σ else if htg σ a = 28 then X8_who x0 x1 σ else if htg σ a = 29 then X8_who x0 x1 σ else none
theorem ld_vWho_25 : Cond.landsInDefault "MissCurves$Oldest" ({ cls := "MissCurves$Leaving", name := "who", desc := "(LMissCurves$Held;)I" } : MethodName) ({ cls := "MissCurves$Leaving", name := "who", desc := "(LMissCurves$Held;)I" } : MethodName) ∈ ndf := by unfold ndf; decide +kernel
theorem ld_vWho_26 : Cond.landsInDefault "MissCurves$Newest" ({ cls := "MissCurves$Leaving", name := "who", desc := "(LMissCurves$Held;)I" } : MethodName) ({ cls := "MissCurves$Leaving", name := "who", desc := "(LMissCurves$Held;)I" } : MethodName) ∈ ndf := by unfold ndf; decide +kernel
theorem ld_vWho_27 : Cond.landsInDefault "MissCurves$Longest" ({ cls := "MissCurves$Leaving", name := "who", desc := "(LMissCurves$Held;)I" } : MethodName) ({ cls := "MissCurves$Leaving", name := "who", desc := "(LMissCurves$Held;)I" } : MethodName) ∈ ndf := by unfold ndf; decide +kernel
theorem ld_vWho_28 : Cond.landsInDefault "MissCurves$Rarest" ({ cls := "MissCurves$Leaving", name := "who", desc := "(LMissCurves$Held;)I" } : MethodName) ({ cls := "MissCurves$Leaving", name := "who", desc := "(LMissCurves$Held;)I" } : MethodName) ∈ ndf := by unfold ndf; decide +kernel
theorem ld_vWho_29 : Cond.landsInDefault "MissCurves$Latest" ({ cls := "MissCurves$Leaving", name := "who", desc := "(LMissCurves$Held;)I" } : MethodName) ({ cls := "MissCurves$Leaving", name := "who", desc := "(LMissCurves$Held;)I" } : MethodName) ∈ ndf := by unfold ndf; decide +kernel
theorem svWho {γ : GP} (hγ : GOK γ) (x0 : Option Nat) (x1 : Option Nat) (σ : Hp) (q : (Int32 × Hp)) (h : vWho x0 x1 σ = some q) : UG γ 2 ({ cls := "MissCurves$Leaving", name := "who", desc := "(LMissCurves$Held;)I" } : MethodName) 1 x0 [va_rf x1] (σ, .inr (some (.int q.1)), q.2) := by
  unfold vWho at h
  obtain ⟨a, ha, h⟩ := some_of_bind h
  rcases Classical.em (htg σ a = 25) with c0 | c0
  · rw [if_pos c0] at h
    exact Or.inr (UD.of (c9 := 25) (b := a) (show cT σ x0 25 = some a by rw [ha]; exact if_pos c0) (by decide) rfl ykX8_who ld_vWho_25 q1937 (show 2 ≤ 2 by omega) ⟨q1934, q1933, q1938, q1965⟩ (sX8_who hγ x0 x1 σ q h))
  · rw [if_neg c0] at h
    rcases Classical.em (htg σ a = 26) with c1 | c1
    · rw [if_pos c1] at h
      exact Or.inr (UD.of (c9 := 26) (b := a) (show cT σ x0 26 = some a by rw [ha]; exact if_pos c1) (by decide) rfl ykX8_who ld_vWho_26 q1937 (show 2 ≤ 2 by omega) ⟨q1934, q1933, q1938, q1959⟩ (sX8_who hγ x0 x1 σ q h))
    · rw [if_neg c1] at h
      rcases Classical.em (htg σ a = 27) with c2 | c2
      · rw [if_pos c2] at h
        exact Or.inr (UD.of (c9 := 27) (b := a) (show cT σ x0 27 = some a by rw [ha]; exact if_pos c2) (by decide) rfl ykX8_who ld_vWho_27 q1937 (show 2 ≤ 2 by omega) ⟨q1934, q1933, q1938, q1953⟩ (sX8_who hγ x0 x1 σ q h))
      · rw [if_neg c2] at h
        rcases Classical.em (htg σ a = 28) with c3 | c3
        · rw [if_pos c3] at h
          exact Or.inr (UD.of (c9 := 28) (b := a) (show cT σ x0 28 = some a by rw [ha]; exact if_pos c3) (by decide) rfl ykX8_who ld_vWho_28 q1937 (show 2 ≤ 2 by omega) ⟨q1934, q1933, q1938, q1971⟩ (sX8_who hγ x0 x1 σ q h))
        · rw [if_neg c3] at h
          rcases Classical.em (htg σ a = 29) with c4 | c4
          · rw [if_pos c4] at h
            exact Or.inr (UD.of (c9 := 29) (b := a) (show cT σ x0 29 = some a by rw [ha]; exact if_pos c4) (by decide) rfl ykX8_who ld_vWho_29 q1937 (show 2 ≤ 2 by omega) ⟨q1934, q1933, q1938, q1935⟩ (sX8_who hγ x0 x1 σ q h))
          · rw [if_neg c4] at h
            cases h
abbrev mX24_init : MP := (cX24_init, "MissCurves$Held", 3, (Option.none : Option FieldType), 1, "<init>", [])
theorem ykX24_init : YK yX24_init mX24_init 2 := ⟨q1854, q173, ⟨by decide, by decide⟩, by decide +kernel, Nat.le_of_ble_eq_true rfl, by decide, rfl, rfl⟩
theorem pk_x_177 : POK "MissCurves$Held" "<init>" 9 [24] 0 (.array .int) := POK.one (by decide) rfl (Nat.le_of_ble_eq_true rfl) (Or.inl ⟨_, q1856, Or.inl rfl⟩) rfl (by decide +kernel) (Or.inr ⟨rfl, rfl, rfl, _, q1856, Or.inl rfl⟩)
theorem pk_x_178 : POK "MissCurves$Held" "<init>" 15 [24] 1 (.array .int) := POK.one (by decide) rfl (Nat.le_of_ble_eq_true rfl) (Or.inl ⟨_, q1859, Or.inl rfl⟩) rfl (by decide +kernel) (Or.inr ⟨rfl, rfl, rfl, _, q1859, Or.inl rfl⟩)
theorem pk_x_179 : POK "MissCurves$Held" "<init>" 18 [24] 2 (.array .int) := POK.one (by decide) rfl (Nat.le_of_ble_eq_true rfl) (Or.inl ⟨_, q1863, Or.inl rfl⟩) rfl (by decide +kernel) (Or.inr ⟨rfl, rfl, rfl, _, q1863, Or.inl rfl⟩)
theorem pk_x_180 : POK "MissCurves$Held" "<init>" 21 [24] 3 (.object "MissCurves$Book") := POK.one (by decide) rfl (Nat.le_of_ble_eq_true rfl) (Or.inl ⟨_, q1865, Or.inl rfl⟩) rfl (by decide +kernel) (Or.inr ⟨rfl, rfl, rfl, _, q1865, Or.inl rfl⟩)
theorem pk_x_181 : POK "MissCurves$Held" "<init>" 25 [24] 4 .int := POK.one (by decide) rfl (Nat.le_of_ble_eq_true rfl) (Or.inl ⟨_, q1866, Or.inl rfl⟩) rfl (by decide +kernel) (Or.inr ⟨rfl, rfl, rfl, _, q1866, Or.inl rfl⟩)
def X24_init (l0 : Option Nat) (l1 : Option Nat) (l2 : Int32) (σ : Hp) : Option Hp :=
  l0.bind fun b1 =>
  (nA 0 σ (24 : Int32)).bind fun σ2 =>
  (pR σ2 l0 [24] 0 (some (hsz σ))).bind fun σ3 =>
  (nA 0 σ3 (24 : Int32)).bind fun σ4 =>
  (pR σ4 l0 [24] 1 (some (hsz σ3))).bind fun σ5 =>
  (nA 0 σ5 (24 : Int32)).bind fun σ6 =>
  (pR σ6 l0 [24] 2 (some (hsz σ5))).bind fun σ7 =>
  (pR σ7 l0 [24] 3 l1).bind fun σ8 =>
  (pI σ8 l0 [24] 4 l2).bind fun σ9 =>
  some σ9
set_option maxHeartbeats 4000000 in
theorem sX24_init {γ : GP} (hγ : GOK γ) (l0 : Option Nat) (l1 : Option Nat) (l2 : Int32) (σ : Hp) (q : Hp) (h : X24_init l0 l1 l2 σ = some q) : Rn γ mX24_init yX24_init [va_rf l0, va_rf l1, .int l2] (σ, .inr none, q) := by
  refine J_m hγ ykX24_init rfl [(1, va_rf l0), (1, va_rf l1), (1, .int l2)] (cats_r (cats_r (cats_i cats_nil))) (Nat.le_of_ble_eq_true rfl) ?_
  show J γ mX24_init _ σ 0 [(0, 1, va_rf l0), (1, 1, va_rf l1), (2, 1, .int l2)] []
  unfold X24_init at h
  refine J_aload_n (i := 0) 0 1 dX24_init_0 rfl rfl rfl ?_
  obtain ⟨b1, hb1, h⟩ := some_of_bind h
  refine J_oI hb1 q1855 (Nat.le_of_ble_eq_true rfl) cs_nil (by decide) 4 dX24_init_1 rfl ?_
  refine J_aload_n (i := 0) 0 5 dX24_init_4 rfl rfl rfl ?_
  refine J_bipush 7 dX24_init_5 rfl (24 : Int32) kbp_24 ?_
  obtain ⟨σ2, hσ2, h⟩ := some_of_bind h
  refine J_newI 9 dX24_init_7 rfl hσ2 ?_
  obtain ⟨σ3, hσ3, h⟩ := some_of_bind h
  refine J_pR rfl 12 dX24_init_9 rfl pk_x_177 hσ3 ?_
  refine J_aload_n (i := 0) 0 13 dX24_init_12 rfl rfl rfl ?_
  refine J_bipush 15 dX24_init_13 rfl (24 : Int32) kbp_24 ?_
  obtain ⟨σ4, hσ4, h⟩ := some_of_bind h
  refine J_newI 17 dX24_init_15 rfl hσ4 ?_
  obtain ⟨σ5, hσ5, h⟩ := some_of_bind h
  refine J_pR rfl 20 dX24_init_17 rfl pk_x_178 hσ5 ?_
  refine J_aload_n (i := 0) 0 21 dX24_init_20 rfl rfl rfl ?_
  refine J_bipush 23 dX24_init_21 rfl (24 : Int32) kbp_24 ?_
  obtain ⟨σ6, hσ6, h⟩ := some_of_bind h
  refine J_newI 25 dX24_init_23 rfl hσ6 ?_
  obtain ⟨σ7, hσ7, h⟩ := some_of_bind h
  refine J_pR rfl 28 dX24_init_25 rfl pk_x_179 hσ7 ?_
  refine J_aload_n (i := 0) 0 29 dX24_init_28 rfl rfl rfl ?_
  refine J_aload_n (i := 1) 1 30 dX24_init_29 rfl rfl rfl ?_
  obtain ⟨σ8, hσ8, h⟩ := some_of_bind h
  refine J_pR rfl 33 dX24_init_30 rfl pk_x_180 hσ8 ?_
  refine J_aload_n (i := 0) 0 34 dX24_init_33 rfl rfl rfl ?_
  refine J_iload_n (i := 2) 2 35 dX24_init_34 rfl rfl rfl ?_
  obtain ⟨σ9, hσ9, h⟩ := some_of_bind h
  refine J_pI 38 dX24_init_35 rfl pk_x_181 hσ9 ?_
  exact J_vret rfl dX24_init_38 (retV h)
abbrev mX24_placeOf : MP := (cX24_placeOf, "MissCurves$Held", 4, (Option.some FieldType.int), 0, "placeOf", [])
theorem ykX24_placeOf : YK yX24_placeOf mX24_placeOf 1 := ⟨q1930, q173, ⟨by decide, by decide⟩, by decide +kernel, Nat.le_of_ble_eq_true rfl, by decide, rfl, rfl⟩
theorem fk_x_182 : FOK "MissCurves$Held" 29 [24] 5 isI := FOK.one (by decide) rfl (Nat.le_of_ble_eq_true rfl) (Or.inl ⟨_, q1867, Or.inl rfl⟩) rfl
theorem fk_x_183 : FOK "MissCurves$Held" 9 [24] 0 isR := FOK.one (by decide) rfl (Nat.le_of_ble_eq_true rfl) (Or.inl ⟨_, q1856, Or.inl rfl⟩) rfl
def X24_placeOf_c4 (l0 : Option Nat) (l1 : Int32)  : Nat → Int32 → Int32 → Hp → Option (Int32 × Hp)
  | 0, _, _, _ => none
  | n + 1, l2, l3, σ =>
    (gI σ l0 [24] 5).bind fun v1 =>
    if v1 ≤ l3 then
      some (l2, σ)
    else
      (gR σ l0 [24] 0).bind fun v3 =>
      (aI 0 σ v3 l3).bind fun v4 =>
      if v4 = l1 then
        X24_placeOf_c4 l0 l1 n l3 (l3 + (1 : Int32)) σ
      else
        X24_placeOf_c4 l0 l1 n l2 (l3 + (1 : Int32)) σ
set_option maxHeartbeats 4000000 in
theorem jX24_placeOf_c4 {γ : GP} {σ0 : Hp} {q : (Int32 × Hp)} (hγ : GOK γ) (l0 : Option Nat) (l1 : Int32)  : ∀ (n : Nat) (l2 : Int32) (l3 : Int32) (σ : Hp), X24_placeOf_c4 l0 l1 n l2 l3 σ = some q → J γ mX24_placeOf (σ0, .inr (some (.int q.1)), q.2) σ 4 [(0, 1, va_rf l0), (1, 1, .int l1), (2, 1, .int l2), (3, 1, .int l3)] [] := by
  intro n
  induction n with
  | zero => intro l2 l3 σ h; exact nomatch (show none = some q from h)
  | succ n ih =>
    intro l2 l3 σ h
    rw [X24_placeOf_c4] at h
    refine J_iload_n (i := 3) 3 5 dX24_placeOf_4 rfl rfl rfl ?_
    refine J_aload_n (i := 0) 0 6 dX24_placeOf_5 rfl rfl rfl ?_
    obtain ⟨v1, hv1, h⟩ := some_of_bind h
    refine J_gI 9 dX24_placeOf_6 rfl fk_x_182 hv1 ?_
    refine J_icmp_ge 34 12 dX24_placeOf_9 (by decide) rfl (fun c2 => ?_) (fun c2 => ?_)
    · rw [if_pos c2] at h
      refine J_iload_n (i := 2) 2 35 dX24_placeOf_34 rfl rfl rfl ?_
      exact J_iret rfl dX24_placeOf_35 (retI h)
    · rw [if_neg c2] at h
      refine J_aload_n (i := 0) 0 13 dX24_placeOf_12 rfl rfl rfl ?_
      obtain ⟨v3, hv3, h⟩ := some_of_bind h
      refine J_gR 16 dX24_placeOf_13 rfl fk_x_183 hv3 ?_
      refine J_iload_n (i := 3) 3 17 dX24_placeOf_16 rfl rfl rfl ?_
      obtain ⟨v4, hv4, h⟩ := some_of_bind h
      refine J_iald 18 dX24_placeOf_17 rfl hv4 ?_
      refine J_iload_n (i := 1) 1 19 dX24_placeOf_18 rfl rfl rfl ?_
      refine J_icmp_ne 26 22 dX24_placeOf_19 (by decide) rfl (fun c5 => ?_) (fun c5 => ?_)
      · rw [if_neg c5] at h
        refine J_iload_n (i := 2) 2 27 dX24_placeOf_26 rfl rfl rfl ?_
        refine J_istore_n (i := 2) 28 [(2, 1, .int l2), (0, 1, va_rf l0), (1, 1, .int l1), (3, 1, .int l3)] dX24_placeOf_27 rfl rfl (Nat.le_of_ble_eq_true rfl) rfl ?_
        refine J_iinc (i := 3) (v := l3 + (1 : Int32)) 3 31 [(3, 1, .int (l3 + (1 : Int32))), (2, 1, .int l2), (0, 1, va_rf l0), (1, 1, .int l1)] dX24_placeOf_28 rfl rfl (Nat.le_of_ble_eq_true rfl) (by rw [kic_1]) rfl ?_
        refine J_goto 4 dX24_placeOf_31 (by decide) ?_
        refine J.pick [2, 3, 1, 0] rfl ?_
        exact ih l2 (l3 + (1 : Int32)) σ h
      · rw [if_pos c5] at h
        refine J_iload_n (i := 3) 3 23 dX24_placeOf_22 rfl rfl rfl ?_
        refine J_goto 27 dX24_placeOf_23 (by decide) ?_
        refine J_istore_n (i := 2) 28 [(2, 1, .int l3), (0, 1, va_rf l0), (1, 1, .int l1), (3, 1, .int l3)] dX24_placeOf_27 rfl rfl (Nat.le_of_ble_eq_true rfl) rfl ?_
        refine J_iinc (i := 3) (v := l3 + (1 : Int32)) 3 31 [(3, 1, .int (l3 + (1 : Int32))), (2, 1, .int l3), (0, 1, va_rf l0), (1, 1, .int l1)] dX24_placeOf_28 rfl rfl (Nat.le_of_ble_eq_true rfl) (by rw [kic_1]) rfl ?_
        refine J_goto 4 dX24_placeOf_31 (by decide) ?_
        refine J.pick [2, 3, 1, 0] rfl ?_
        exact ih l3 (l3 + (1 : Int32)) σ h
def X24_placeOf (l0 : Option Nat) (l1 : Int32) (σ : Hp) : Option (Int32 × Hp) :=
  X24_placeOf_c4 l0 l1  FUEL (-1 : Int32) (0 : Int32) σ
set_option maxHeartbeats 4000000 in
theorem sX24_placeOf {γ : GP} (hγ : GOK γ) (l0 : Option Nat) (l1 : Int32) (σ : Hp) (q : (Int32 × Hp)) (h : X24_placeOf l0 l1 σ = some q) : Rn γ mX24_placeOf yX24_placeOf [va_rf l0, .int l1] (σ, .inr (some (.int q.1)), q.2) := by
  refine J_m hγ ykX24_placeOf rfl [(1, va_rf l0), (1, .int l1)] (cats_r (cats_i cats_nil)) (Nat.le_of_ble_eq_true rfl) ?_
  show J γ mX24_placeOf _ σ 0 [(0, 1, va_rf l0), (1, 1, .int l1)] []
  unfold X24_placeOf at h
  refine J_ic 1 dX24_placeOf_0 rfl (-1 : Int32) kic_m1 ?_
  refine J_istore_n (i := 2) 2 [(2, 1, .int (-1 : Int32)), (0, 1, va_rf l0), (1, 1, .int l1)] dX24_placeOf_1 rfl rfl (Nat.le_of_ble_eq_true rfl) rfl ?_
  refine J_ic 3 dX24_placeOf_2 rfl (0 : Int32) kic_0 ?_
  refine J_istore_n (i := 3) 4 [(3, 1, .int (0 : Int32)), (2, 1, .int (-1 : Int32)), (0, 1, va_rf l0), (1, 1, .int l1)] dX24_placeOf_3 rfl rfl (Nat.le_of_ble_eq_true rfl) rfl ?_
  refine J.pick [2, 3, 1, 0] rfl ?_
  refine jX24_placeOf_c4 hγ l0 l1  FUEL (-1 : Int32) (0 : Int32) σ h
abbrev mX24_leave : MP := (cX24_leave, "MissCurves$Held", 2, (Option.none : Option FieldType), 0, "leave", [])
theorem ykX24_leave : YK yX24_leave mX24_leave 1 := ⟨q2004, q173, ⟨by decide, by decide⟩, by decide +kernel, Nat.le_of_ble_eq_true rfl, by decide, rfl, rfl⟩
theorem pk_x_184 {nm9 : String} : POK "MissCurves$Held" nm9 29 [24] 5 .int := POK.one (by decide) rfl (Nat.le_of_ble_eq_true rfl) (Or.inl ⟨_, q1867, Or.inl rfl⟩) rfl (by decide +kernel) (Or.inl rfl)
theorem fk_x_185 : FOK "MissCurves$Held" 15 [24] 1 isR := FOK.one (by decide) rfl (Nat.le_of_ble_eq_true rfl) (Or.inl ⟨_, q1859, Or.inl rfl⟩) rfl
theorem fk_x_186 : FOK "MissCurves$Held" 18 [24] 2 isR := FOK.one (by decide) rfl (Nat.le_of_ble_eq_true rfl) (Or.inl ⟨_, q1863, Or.inl rfl⟩) rfl
def X24_leave (l0 : Option Nat) (l1 : Int32) (σ : Hp) : Option Hp :=
  (gI σ l0 [24] 5).bind fun v1 =>
  (pI σ l0 [24] 5 (v1 - (1 : Int32))).bind fun σ2 =>
  (gR σ2 l0 [24] 0).bind fun v3 =>
  (gR σ2 l0 [24] 0).bind fun v4 =>
  (gI σ2 l0 [24] 5).bind fun v5 =>
  (aI 0 σ2 v4 v5).bind fun v6 =>
  (sI 0 σ2 v3 l1 v6).bind fun σ7 =>
  (gR σ7 l0 [24] 1).bind fun v8 =>
  (gR σ7 l0 [24] 1).bind fun v9 =>
  (gI σ7 l0 [24] 5).bind fun v10 =>
  (aI 0 σ7 v9 v10).bind fun v11 =>
  (sI 0 σ7 v8 l1 v11).bind fun σ12 =>
  (gR σ12 l0 [24] 2).bind fun v13 =>
  (gR σ12 l0 [24] 2).bind fun v14 =>
  (gI σ12 l0 [24] 5).bind fun v15 =>
  (aI 0 σ12 v14 v15).bind fun v16 =>
  (sI 0 σ12 v13 l1 v16).bind fun σ17 =>
  some σ17
set_option maxHeartbeats 4000000 in
theorem sX24_leave {γ : GP} (hγ : GOK γ) (l0 : Option Nat) (l1 : Int32) (σ : Hp) (q : Hp) (h : X24_leave l0 l1 σ = some q) : Rn γ mX24_leave yX24_leave [va_rf l0, .int l1] (σ, .inr none, q) := by
  refine J_m hγ ykX24_leave rfl [(1, va_rf l0), (1, .int l1)] (cats_r (cats_i cats_nil)) (Nat.le_of_ble_eq_true rfl) ?_
  show J γ mX24_leave _ σ 0 [(0, 1, va_rf l0), (1, 1, .int l1)] []
  unfold X24_leave at h
  refine J_aload_n (i := 0) 0 1 dX24_leave_0 rfl rfl rfl ?_
  refine J_dupr 2 dX24_leave_1 rfl ?_
  obtain ⟨v1, hv1, h⟩ := some_of_bind h
  refine J_gI 5 dX24_leave_2 rfl fk_x_182 hv1 ?_
  refine J_ic 6 dX24_leave_5 rfl (1 : Int32) kic_1 ?_
  refine J_isub 7 dX24_leave_6 rfl ?_
  obtain ⟨σ2, hσ2, h⟩ := some_of_bind h
  refine J_pI 10 dX24_leave_7 rfl pk_x_184 hσ2 ?_
  refine J_aload_n (i := 0) 0 11 dX24_leave_10 rfl rfl rfl ?_
  obtain ⟨v3, hv3, h⟩ := some_of_bind h
  refine J_gR 14 dX24_leave_11 rfl fk_x_183 hv3 ?_
  refine J_iload_n (i := 1) 1 15 dX24_leave_14 rfl rfl rfl ?_
  refine J_aload_n (i := 0) 0 16 dX24_leave_15 rfl rfl rfl ?_
  obtain ⟨v4, hv4, h⟩ := some_of_bind h
  refine J_gR 19 dX24_leave_16 rfl fk_x_183 hv4 ?_
  refine J_aload_n (i := 0) 0 20 dX24_leave_19 rfl rfl rfl ?_
  obtain ⟨v5, hv5, h⟩ := some_of_bind h
  refine J_gI 23 dX24_leave_20 rfl fk_x_182 hv5 ?_
  obtain ⟨v6, hv6, h⟩ := some_of_bind h
  refine J_iald 24 dX24_leave_23 rfl hv6 ?_
  obtain ⟨σ7, hσ7, h⟩ := some_of_bind h
  refine J_iast 25 dX24_leave_24 rfl hσ7 ?_
  refine J_aload_n (i := 0) 0 26 dX24_leave_25 rfl rfl rfl ?_
  obtain ⟨v8, hv8, h⟩ := some_of_bind h
  refine J_gR 29 dX24_leave_26 rfl fk_x_185 hv8 ?_
  refine J_iload_n (i := 1) 1 30 dX24_leave_29 rfl rfl rfl ?_
  refine J_aload_n (i := 0) 0 31 dX24_leave_30 rfl rfl rfl ?_
  obtain ⟨v9, hv9, h⟩ := some_of_bind h
  refine J_gR 34 dX24_leave_31 rfl fk_x_185 hv9 ?_
  refine J_aload_n (i := 0) 0 35 dX24_leave_34 rfl rfl rfl ?_
  obtain ⟨v10, hv10, h⟩ := some_of_bind h
  refine J_gI 38 dX24_leave_35 rfl fk_x_182 hv10 ?_
  obtain ⟨v11, hv11, h⟩ := some_of_bind h
  refine J_iald 39 dX24_leave_38 rfl hv11 ?_
  obtain ⟨σ12, hσ12, h⟩ := some_of_bind h
  refine J_iast 40 dX24_leave_39 rfl hσ12 ?_
  refine J_aload_n (i := 0) 0 41 dX24_leave_40 rfl rfl rfl ?_
  obtain ⟨v13, hv13, h⟩ := some_of_bind h
  refine J_gR 44 dX24_leave_41 rfl fk_x_186 hv13 ?_
  refine J_iload_n (i := 1) 1 45 dX24_leave_44 rfl rfl rfl ?_
  refine J_aload_n (i := 0) 0 46 dX24_leave_45 rfl rfl rfl ?_
  obtain ⟨v14, hv14, h⟩ := some_of_bind h
  refine J_gR 49 dX24_leave_46 rfl fk_x_186 hv14 ?_
  refine J_aload_n (i := 0) 0 50 dX24_leave_49 rfl rfl rfl ?_
  obtain ⟨v15, hv15, h⟩ := some_of_bind h
  refine J_gI 53 dX24_leave_50 rfl fk_x_182 hv15 ?_
  obtain ⟨v16, hv16, h⟩ := some_of_bind h
  refine J_iald 54 dX24_leave_53 rfl hv16 ?_
  obtain ⟨σ17, hσ17, h⟩ := some_of_bind h
  refine J_iast 55 dX24_leave_54 rfl hσ17 ?_
  exact J_vret rfl dX24_leave_55 (retV h)
abbrev mX24_read : MP := (cX24_read, "MissCurves$Held", 5, (Option.some FieldType.boolean), 3, "read", [])
theorem ykX24_read : YK yX24_read mX24_read 1 := ⟨q1926, q173, ⟨by decide, by decide⟩, by decide +kernel, Nat.le_of_ble_eq_true rfl, by decide, rfl, rfl⟩
theorem pk_x_187 {nm9 : String} : POK "MissCurves$Held" nm9 32 [24] 6 .int := POK.one (by decide) rfl (Nat.le_of_ble_eq_true rfl) (Or.inl ⟨_, q1869, Or.inl rfl⟩) rfl (by decide +kernel) (Or.inl rfl)
theorem fk_x_188 : FOK "MissCurves$Held" 25 [24] 4 isI := FOK.one (by decide) rfl (Nat.le_of_ble_eq_true rfl) (Or.inl ⟨_, q1866, Or.inl rfl⟩) rfl
def X24_read_c130  (l0 : Option Nat) (l4 : Int32)  (σ : Hp) : Option (Int32 × Hp) :=
  (gI σ l0 [24] 6).bind fun v1 =>
  (pI σ l0 [24] 6 (v1 + (1 : Int32))).bind fun σ2 =>
  rZ l4 σ2
set_option maxHeartbeats 4000000 in
theorem jX24_read_c130 {γ : GP} {σ0 : Hp} {q : (Int32 × Hp)} (hγ : GOK γ) (l0 : Option Nat) (l4 : Int32)   (σ : Hp) (h : X24_read_c130 l0 l4 σ = some q) : J γ mX24_read (σ0, .inr (some (.int q.1)), q.2) σ 130 [(0, 1, va_rf l0), (4, 1, .int l4)] [] := by
  unfold X24_read_c130 at h
  refine J_aload_n (i := 0) 0 131 dX24_read_130 rfl rfl rfl ?_
  refine J_dupr 132 dX24_read_131 rfl ?_
  obtain ⟨v1, hv1, h⟩ := some_of_bind h
  refine J_gI 135 dX24_read_132 rfl fk_x_166 hv1 ?_
  refine J_ic 136 dX24_read_135 rfl (1 : Int32) kic_1 ?_
  refine J_iadd 137 dX24_read_136 rfl ?_
  obtain ⟨σ2, hσ2, h⟩ := some_of_bind h
  refine J_pI 140 dX24_read_137 rfl pk_x_187 hσ2 ?_
  refine J_iload (i := 4) 1 142 dX24_read_140 rfl rfl ?_
  exact J_zret rfl (ite_some h).1 dX24_read_142 (retZ h)
def X24_read_c115  (l0 : Option Nat) (l3 : Int32) (l4 : Int32)  (σ : Hp) : Option (Int32 × Hp) :=
  if l3 = (-1 : Int32) then
    X24_read_c130  l0 l4  σ
  else
    (gR σ l0 [24] 1).bind fun v2 =>
    (gI σ l0 [24] 6).bind fun v3 =>
    (sI 0 σ v2 l3 v3).bind fun σ4 =>
    X24_read_c130  l0 l4  σ4
set_option maxHeartbeats 4000000 in
theorem jX24_read_c115 {γ : GP} {σ0 : Hp} {q : (Int32 × Hp)} (hγ : GOK γ) (l0 : Option Nat) (l3 : Int32) (l4 : Int32)   (σ : Hp) (h : X24_read_c115 l0 l3 l4 σ = some q) : J γ mX24_read (σ0, .inr (some (.int q.1)), q.2) σ 115 [(0, 1, va_rf l0), (3, 1, .int l3), (4, 1, .int l4)] [] := by
  unfold X24_read_c115 at h
  refine J_iload_n (i := 3) 1 116 dX24_read_115 rfl rfl rfl ?_
  refine J_ic 117 dX24_read_116 rfl (-1 : Int32) kic_m1 ?_
  refine J_icmp_eq 130 120 dX24_read_117 (by decide) rfl (fun c1 => ?_) (fun c1 => ?_)
  · rw [if_pos c1] at h
    refine J.pick [0, 2] rfl ?_
    exact jX24_read_c130 hγ l0 l4  σ h
  · rw [if_neg c1] at h
    refine J_aload_n (i := 0) 0 121 dX24_read_120 rfl rfl rfl ?_
    obtain ⟨v2, hv2, h⟩ := some_of_bind h
    refine J_gR 124 dX24_read_121 rfl fk_x_185 hv2 ?_
    refine J_iload_n (i := 3) 1 125 dX24_read_124 rfl rfl rfl ?_
    refine J_aload_n (i := 0) 0 126 dX24_read_125 rfl rfl rfl ?_
    obtain ⟨v3, hv3, h⟩ := some_of_bind h
    refine J_gI 129 dX24_read_126 rfl fk_x_166 hv3 ?_
    obtain ⟨σ4, hσ4, h⟩ := some_of_bind h
    refine J_iast 130 dX24_read_129 rfl hσ4 ?_
    refine J.pick [0, 2] rfl ?_
    exact jX24_read_c130 hγ l0 l4  σ4 h
def X24_read_c65  (l0 : Option Nat) (l2 : Int32) (l3 : Int32) (l4 : Int32)  (σ : Hp) : Option (Int32 × Hp) :=
  if l4 = 0 then
    X24_read_c115  l0 l3 l4  σ
  else
    (gI σ l0 [24] 4).bind fun v2 =>
    if v2 ≤ 0 then
      X24_read_c115  l0 l3 l4  σ
    else
      (gI σ l0 [24] 5).bind fun v4 =>
      (gR σ l0 [24] 0).bind fun v5 =>
      (gI σ l0 [24] 5).bind fun v6 =>
      (sI 0 σ v5 v6 l2).bind fun σ7 =>
      (gR σ7 l0 [24] 2).bind fun v8 =>
      (gI σ7 l0 [24] 5).bind fun v9 =>
      (gI σ7 l0 [24] 6).bind fun v10 =>
      (sI 0 σ7 v8 v9 v10).bind fun σ11 =>
      (gI σ11 l0 [24] 5).bind fun v12 =>
      (pI σ11 l0 [24] 5 (v12 + (1 : Int32))).bind fun σ13 =>
      X24_read_c115  l0 v4 l4  σ13
set_option maxHeartbeats 4000000 in
theorem jX24_read_c65 {γ : GP} {σ0 : Hp} {q : (Int32 × Hp)} (hγ : GOK γ) (l0 : Option Nat) (l2 : Int32) (l3 : Int32) (l4 : Int32)   (σ : Hp) (h : X24_read_c65 l0 l2 l3 l4 σ = some q) : J γ mX24_read (σ0, .inr (some (.int q.1)), q.2) σ 65 [(0, 1, va_rf l0), (2, 1, .int l2), (3, 1, .int l3), (4, 1, .int l4)] [] := by
  unfold X24_read_c65 at h
  refine J_iload (i := 4) 3 67 dX24_read_65 rfl rfl ?_
  refine J_if_eq 115 70 dX24_read_67 (by decide) rfl (fun c1 => ?_) (fun c1 => ?_)
  · rw [if_pos c1] at h
    refine J.pick [0, 2, 3] rfl ?_
    exact jX24_read_c115 hγ l0 l3 l4  σ h
  · rw [if_neg c1] at h
    refine J_aload_n (i := 0) 0 71 dX24_read_70 rfl rfl rfl ?_
    obtain ⟨v2, hv2, h⟩ := some_of_bind h
    refine J_gI 74 dX24_read_71 rfl fk_x_188 hv2 ?_
    refine J_if_le 115 77 dX24_read_74 (by decide) rfl (fun c3 => ?_) (fun c3 => ?_)
    · rw [if_pos c3] at h
      refine J.pick [0, 2, 3] rfl ?_
      exact jX24_read_c115 hγ l0 l3 l4  σ h
    · rw [if_neg c3] at h
      refine J_aload_n (i := 0) 0 78 dX24_read_77 rfl rfl rfl ?_
      obtain ⟨v4, hv4, h⟩ := some_of_bind h
      refine J_gI 81 dX24_read_78 rfl fk_x_182 hv4 ?_
      refine J_istore_n (i := 3) 82 [(3, 1, .int v4), (0, 1, va_rf l0), (2, 1, .int l2), (4, 1, .int l4)] dX24_read_81 rfl rfl (Nat.le_of_ble_eq_true rfl) rfl ?_
      refine J_aload_n (i := 0) 1 83 dX24_read_82 rfl rfl rfl ?_
      obtain ⟨v5, hv5, h⟩ := some_of_bind h
      refine J_gR 86 dX24_read_83 rfl fk_x_183 hv5 ?_
      refine J_aload_n (i := 0) 1 87 dX24_read_86 rfl rfl rfl ?_
      obtain ⟨v6, hv6, h⟩ := some_of_bind h
      refine J_gI 90 dX24_read_87 rfl fk_x_182 hv6 ?_
      refine J_iload_n (i := 2) 2 91 dX24_read_90 rfl rfl rfl ?_
      obtain ⟨σ7, hσ7, h⟩ := some_of_bind h
      refine J_iast 92 dX24_read_91 rfl hσ7 ?_
      refine J_aload_n (i := 0) 1 93 dX24_read_92 rfl rfl rfl ?_
      obtain ⟨v8, hv8, h⟩ := some_of_bind h
      refine J_gR 96 dX24_read_93 rfl fk_x_186 hv8 ?_
      refine J_aload_n (i := 0) 1 97 dX24_read_96 rfl rfl rfl ?_
      obtain ⟨v9, hv9, h⟩ := some_of_bind h
      refine J_gI 100 dX24_read_97 rfl fk_x_182 hv9 ?_
      refine J_aload_n (i := 0) 1 101 dX24_read_100 rfl rfl rfl ?_
      obtain ⟨v10, hv10, h⟩ := some_of_bind h
      refine J_gI 104 dX24_read_101 rfl fk_x_166 hv10 ?_
      obtain ⟨σ11, hσ11, h⟩ := some_of_bind h
      refine J_iast 105 dX24_read_104 rfl hσ11 ?_
      refine J_aload_n (i := 0) 1 106 dX24_read_105 rfl rfl rfl ?_
      refine J_dupr 107 dX24_read_106 rfl ?_
      obtain ⟨v12, hv12, h⟩ := some_of_bind h
      refine J_gI 110 dX24_read_107 rfl fk_x_182 hv12 ?_
      refine J_ic 111 dX24_read_110 rfl (1 : Int32) kic_1 ?_
      refine J_iadd 112 dX24_read_111 rfl ?_
      obtain ⟨σ13, hσ13, h⟩ := some_of_bind h
      refine J_pI 115 dX24_read_112 rfl pk_x_184 hσ13 ?_
      refine J.pick [1, 0, 3] rfl ?_
      exact jX24_read_c115 hγ l0 v4 l4  σ13 h
def X24_read_c29  (l0 : Option Nat) (l1 : Option Nat) (l2 : Int32) (l3 : Int32) (s0 : Int32) (σ : Hp) : Option (Int32 × Hp) :=
  if s0 = 0 then
    X24_read_c65  l0 l2 l3 s0  σ
  else
    (gI σ l0 [24] 5).bind fun v2 =>
    (gI σ l0 [24] 4).bind fun v3 =>
    if v2 = v3 then
      (gI σ l0 [24] 5).bind fun v5 =>
      if v5 ≤ 0 then
        X24_read_c65  l0 l2 l3 s0  σ
      else
        (vWho l1 l0 σ).bind fun q7 =>
        (cT q7.2 l0 24).bind fun b9 =>
        (X24_leave l0 q7.1 q7.2).bind fun q8 =>
        X24_read_c65  l0 l2 l3 s0  q8
    else
      X24_read_c65  l0 l2 l3 s0  σ
set_option maxHeartbeats 4000000 in
theorem jX24_read_c29 {γ : GP} {σ0 : Hp} {q : (Int32 × Hp)} (hγ : GOK γ) (l0 : Option Nat) (l1 : Option Nat) (l2 : Int32) (l3 : Int32)  (s0 : Int32) (σ : Hp) (h : X24_read_c29 l0 l1 l2 l3 s0 σ = some q) : J γ mX24_read (σ0, .inr (some (.int q.1)), q.2) σ 29 [(0, 1, va_rf l0), (1, 1, va_rf l1), (2, 1, .int l2), (3, 1, .int l3)] [.int s0] := by
  unfold X24_read_c29 at h
  refine J_istore (i := 4) 31 [(4, 1, .int s0), (0, 1, va_rf l0), (1, 1, va_rf l1), (2, 1, .int l2), (3, 1, .int l3)] dX24_read_29 rfl (Nat.le_of_ble_eq_true rfl) rfl ?_
  refine J_iload (i := 4) 0 33 dX24_read_31 rfl rfl ?_
  refine J_if_eq 65 36 dX24_read_33 (by decide) rfl (fun c1 => ?_) (fun c1 => ?_)
  · rw [if_pos c1] at h
    refine J.pick [1, 3, 4, 0] rfl ?_
    exact jX24_read_c65 hγ l0 l2 l3 s0  σ h
  · rw [if_neg c1] at h
    refine J_aload_n (i := 0) 1 37 dX24_read_36 rfl rfl rfl ?_
    obtain ⟨v2, hv2, h⟩ := some_of_bind h
    refine J_gI 40 dX24_read_37 rfl fk_x_182 hv2 ?_
    refine J_aload_n (i := 0) 1 41 dX24_read_40 rfl rfl rfl ?_
    obtain ⟨v3, hv3, h⟩ := some_of_bind h
    refine J_gI 44 dX24_read_41 rfl fk_x_188 hv3 ?_
    refine J_icmp_ne 65 47 dX24_read_44 (by decide) rfl (fun c4 => ?_) (fun c4 => ?_)
    · rw [if_neg c4] at h
      refine J.pick [1, 3, 4, 0] rfl ?_
      exact jX24_read_c65 hγ l0 l2 l3 s0  σ h
    · rw [if_pos c4] at h
      refine J_aload_n (i := 0) 1 48 dX24_read_47 rfl rfl rfl ?_
      obtain ⟨v5, hv5, h⟩ := some_of_bind h
      refine J_gI 51 dX24_read_48 rfl fk_x_182 hv5 ?_
      refine J_if_le 65 54 dX24_read_51 (by decide) rfl (fun c6 => ?_) (fun c6 => ?_)
      · rw [if_pos c6] at h
        refine J.pick [1, 3, 4, 0] rfl ?_
        exact jX24_read_c65 hγ l0 l2 l3 s0  σ h
      · rw [if_neg c6] at h
        refine J_aload_n (i := 0) 1 55 dX24_read_54 rfl rfl rfl ?_
        refine J_aload_n (i := 1) 2 56 dX24_read_55 rfl rfl rfl ?_
        refine J_aload_n (i := 0) 1 57 dX24_read_56 rfl rfl rfl ?_
        obtain ⟨q7, hq7, h⟩ := some_of_bind h
        refine J_cGi (na := 1) 62 dX24_read_57 rfl q1932 ⟨by decide, by decide, by decide +kernel⟩ (show (2) + 1 ≤ 3 by omega) (cs_rf cs_nil) (by decide) [va_rf l0] rfl rfl (svWho hγ l1 l0 σ q7 hq7) ?_
        obtain ⟨b9, hb9, h⟩ := some_of_bind h
        obtain ⟨q8, hq8, h⟩ := some_of_bind h
        refine J_cVv 65 dX24_read_62 rfl ykX24_leave (Or.inl q2001) q2003 qs33 (Nat.le_of_ble_eq_true rfl) cs_nil (by decide) [.int q7.1] hb9 (by decide) rfl rfl rfl (sX24_leave hγ l0 q7.1 q7.2 q8 hq8) ?_
        refine J.pick [1, 3, 4, 0] rfl ?_
        exact jX24_read_c65 hγ l0 l2 l3 s0  q8 h
def X24_read (l0 : Option Nat) (l1 : Option Nat) (σ : Hp) : Option (Int32 × Hp) :=
  (gR σ l0 [24] 3).bind fun v1 =>
  (gR σ v1 [3] 3).bind fun v2 =>
  (gI σ l0 [24] 6).bind fun v3 =>
  (aI 0 σ v2 v3).bind fun v4 =>
  (cT σ l0 24).bind fun b6 =>
  (X24_placeOf l0 v4 σ).bind fun q5 =>
  if q5.1 = (-1 : Int32) then
    X24_read_c29  l0 l1 v4 q5.1 (1 : Int32) q5.2
  else
    X24_read_c29  l0 l1 v4 q5.1 (0 : Int32) q5.2
set_option maxHeartbeats 4000000 in
theorem sX24_read {γ : GP} (hγ : GOK γ) (l0 : Option Nat) (l1 : Option Nat) (σ : Hp) (q : (Int32 × Hp)) (h : X24_read l0 l1 σ = some q) : Rn γ mX24_read yX24_read [va_rf l0, va_rf l1] (σ, .inr (some (.int q.1)), q.2) := by
  refine J_m hγ ykX24_read rfl [(1, va_rf l0), (1, va_rf l1)] (cats_r (cats_r cats_nil)) (Nat.le_of_ble_eq_true rfl) ?_
  show J γ mX24_read _ σ 0 [(0, 1, va_rf l0), (1, 1, va_rf l1)] []
  unfold X24_read at h
  refine J_aload_n (i := 0) 0 1 dX24_read_0 rfl rfl rfl ?_
  obtain ⟨v1, hv1, h⟩ := some_of_bind h
  refine J_gR 4 dX24_read_1 rfl fk_x_167 hv1 ?_
  obtain ⟨v2, hv2, h⟩ := some_of_bind h
  refine J_gR 7 dX24_read_4 rfl fk_x_168 hv2 ?_
  refine J_aload_n (i := 0) 0 8 dX24_read_7 rfl rfl rfl ?_
  obtain ⟨v3, hv3, h⟩ := some_of_bind h
  refine J_gI 11 dX24_read_8 rfl fk_x_166 hv3 ?_
  obtain ⟨v4, hv4, h⟩ := some_of_bind h
  refine J_iald 12 dX24_read_11 rfl hv4 ?_
  refine J_istore_n (i := 2) 13 [(2, 1, .int v4), (0, 1, va_rf l0), (1, 1, va_rf l1)] dX24_read_12 rfl rfl (Nat.le_of_ble_eq_true rfl) rfl ?_
  refine J_aload_n (i := 0) 1 14 dX24_read_13 rfl rfl rfl ?_
  refine J_iload_n (i := 2) 0 15 dX24_read_14 rfl rfl rfl ?_
  obtain ⟨b6, hb6, h⟩ := some_of_bind h
  obtain ⟨q5, hq5, h⟩ := some_of_bind h
  refine J_cVi 18 dX24_read_15 rfl ykX24_placeOf (Or.inl q1927) q1928 q1929 (Nat.le_of_ble_eq_true rfl) cs_nil (by decide) [.int v4] hb6 (by decide) rfl rfl rfl (sX24_placeOf hγ l0 v4 σ q5 hq5) ?_
  refine J_istore_n (i := 3) 19 [(3, 1, .int q5.1), (2, 1, .int v4), (0, 1, va_rf l0), (1, 1, va_rf l1)] dX24_read_18 rfl rfl (Nat.le_of_ble_eq_true rfl) rfl ?_
  refine J_iload_n (i := 3) 0 20 dX24_read_19 rfl rfl rfl ?_
  refine J_ic 21 dX24_read_20 rfl (-1 : Int32) kic_m1 ?_
  refine J_icmp_ne 28 24 dX24_read_21 (by decide) rfl (fun c7 => ?_) (fun c7 => ?_)
  · rw [if_neg c7] at h
    refine J_ic 29 dX24_read_28 rfl (0 : Int32) kic_0 ?_
    refine J.pick [2, 3, 1, 0] rfl ?_
    exact jX24_read_c29 hγ l0 l1 v4 q5.1 (0 : Int32) q5.2 h
  · rw [if_pos c7] at h
    refine J_ic 25 dX24_read_24 rfl (1 : Int32) kic_1 ?_
    refine J_goto 29 dX24_read_25 (by decide) ?_
    refine J.pick [2, 3, 1, 0] rfl ?_
    exact jX24_read_c29 hγ l0 l1 v4 q5.1 (1 : Int32) q5.2 h
abbrev mX24_isWithin : MP := (cX24_isWithin, "MissCurves$Held", 4, (Option.some FieldType.boolean), 1, "isWithin", [])
theorem ykX24_isWithin : YK yX24_isWithin mX24_isWithin 1 := ⟨q2017, q173, ⟨by decide, by decide⟩, by decide +kernel, Nat.le_of_ble_eq_true rfl, by decide, rfl, rfl⟩
def X24_isWithin_c4 (l0 : Option Nat) (l1 : Option Nat)  : Nat → Int32 → Int32 → Hp → Option (Int32 × Hp)
  | 0, _, _, _ => none
  | n + 1, l2, l3, σ =>
    (gI σ l0 [24] 5).bind fun v1 =>
    if v1 ≤ l3 then
      rZ l2 σ
    else
      (gR σ l0 [24] 0).bind fun v4 =>
      (aI 0 σ v4 l3).bind fun v5 =>
      (cT σ l1 24).bind fun b7 =>
      (X24_placeOf l1 v5 σ).bind fun q6 =>
      if q6.1 = (-1 : Int32) then
        X24_isWithin_c4 l0 l1 n (l2 &&& (0 : Int32)) (l3 + (1 : Int32)) q6.2
      else
        X24_isWithin_c4 l0 l1 n (l2 &&& (1 : Int32)) (l3 + (1 : Int32)) q6.2
set_option maxHeartbeats 4000000 in
theorem jX24_isWithin_c4 {γ : GP} {σ0 : Hp} {q : (Int32 × Hp)} (hγ : GOK γ) (l0 : Option Nat) (l1 : Option Nat)  : ∀ (n : Nat) (l2 : Int32) (l3 : Int32) (σ : Hp), X24_isWithin_c4 l0 l1 n l2 l3 σ = some q → J γ mX24_isWithin (σ0, .inr (some (.int q.1)), q.2) σ 4 [(0, 1, va_rf l0), (1, 1, va_rf l1), (2, 1, .int l2), (3, 1, .int l3)] [] := by
  intro n
  induction n with
  | zero => intro l2 l3 σ h; exact nomatch (show none = some q from h)
  | succ n ih =>
    intro l2 l3 σ h
    rw [X24_isWithin_c4] at h
    refine J_iload_n (i := 3) 3 5 dX24_isWithin_4 rfl rfl rfl ?_
    refine J_aload_n (i := 0) 0 6 dX24_isWithin_5 rfl rfl rfl ?_
    obtain ⟨v1, hv1, h⟩ := some_of_bind h
    refine J_gI 9 dX24_isWithin_6 rfl fk_x_182 hv1 ?_
    refine J_icmp_ge 40 12 dX24_isWithin_9 (by decide) rfl (fun c2 => ?_) (fun c2 => ?_)
    · rw [if_pos c2] at h
      refine J_iload_n (i := 2) 2 41 dX24_isWithin_40 rfl rfl rfl ?_
      exact J_zret rfl (ite_some h).1 dX24_isWithin_41 (retZ h)
    · rw [if_neg c2] at h
      refine J_iload_n (i := 2) 2 13 dX24_isWithin_12 rfl rfl rfl ?_
      refine J_aload_n (i := 1) 1 14 dX24_isWithin_13 rfl rfl rfl ?_
      refine J_aload_n (i := 0) 0 15 dX24_isWithin_14 rfl rfl rfl ?_
      obtain ⟨v4, hv4, h⟩ := some_of_bind h
      refine J_gR 18 dX24_isWithin_15 rfl fk_x_183 hv4 ?_
      refine J_iload_n (i := 3) 3 19 dX24_isWithin_18 rfl rfl rfl ?_
      obtain ⟨v5, hv5, h⟩ := some_of_bind h
      refine J_iald 20 dX24_isWithin_19 rfl hv5 ?_
      obtain ⟨b7, hb7, h⟩ := some_of_bind h
      obtain ⟨q6, hq6, h⟩ := some_of_bind h
      refine J_cVi 23 dX24_isWithin_20 rfl ykX24_placeOf (Or.inl q1927) q1928 q1929 (Nat.le_of_ble_eq_true rfl) (cs_int cs_nil) (by decide) [.int v5] hb7 (by decide) rfl rfl rfl (sX24_placeOf hγ l1 v5 σ q6 hq6) ?_
      refine J_ic 24 dX24_isWithin_23 rfl (-1 : Int32) kic_m1 ?_
      refine J_icmp_eq 31 27 dX24_isWithin_24 (by decide) rfl (fun c8 => ?_) (fun c8 => ?_)
      · rw [if_pos c8] at h
        refine J_ic 32 dX24_isWithin_31 rfl (0 : Int32) kic_0 ?_
        refine J_iand 33 dX24_isWithin_32 rfl ?_
        refine J_istore_n (i := 2) 34 [(2, 1, .int (l2 &&& (0 : Int32))), (0, 1, va_rf l0), (1, 1, va_rf l1), (3, 1, .int l3)] dX24_isWithin_33 rfl rfl (Nat.le_of_ble_eq_true rfl) rfl ?_
        refine J_iinc (i := 3) (v := l3 + (1 : Int32)) 3 37 [(3, 1, .int (l3 + (1 : Int32))), (2, 1, .int (l2 &&& (0 : Int32))), (0, 1, va_rf l0), (1, 1, va_rf l1)] dX24_isWithin_34 rfl rfl (Nat.le_of_ble_eq_true rfl) (by rw [kic_1]) rfl ?_
        refine J_goto 4 dX24_isWithin_37 (by decide) ?_
        refine J.pick [2, 3, 1, 0] rfl ?_
        exact ih (l2 &&& (0 : Int32)) (l3 + (1 : Int32)) q6.2 h
      · rw [if_neg c8] at h
        refine J_ic 28 dX24_isWithin_27 rfl (1 : Int32) kic_1 ?_
        refine J_goto 32 dX24_isWithin_28 (by decide) ?_
        refine J_iand 33 dX24_isWithin_32 rfl ?_
        refine J_istore_n (i := 2) 34 [(2, 1, .int (l2 &&& (1 : Int32))), (0, 1, va_rf l0), (1, 1, va_rf l1), (3, 1, .int l3)] dX24_isWithin_33 rfl rfl (Nat.le_of_ble_eq_true rfl) rfl ?_
        refine J_iinc (i := 3) (v := l3 + (1 : Int32)) 3 37 [(3, 1, .int (l3 + (1 : Int32))), (2, 1, .int (l2 &&& (1 : Int32))), (0, 1, va_rf l0), (1, 1, va_rf l1)] dX24_isWithin_34 rfl rfl (Nat.le_of_ble_eq_true rfl) (by rw [kic_1]) rfl ?_
        refine J_goto 4 dX24_isWithin_37 (by decide) ?_
        refine J.pick [2, 3, 1, 0] rfl ?_
        exact ih (l2 &&& (1 : Int32)) (l3 + (1 : Int32)) q6.2 h
def X24_isWithin (l0 : Option Nat) (l1 : Option Nat) (σ : Hp) : Option (Int32 × Hp) :=
  X24_isWithin_c4 l0 l1  FUEL (1 : Int32) (0 : Int32) σ
set_option maxHeartbeats 4000000 in
theorem sX24_isWithin {γ : GP} (hγ : GOK γ) (l0 : Option Nat) (l1 : Option Nat) (σ : Hp) (q : (Int32 × Hp)) (h : X24_isWithin l0 l1 σ = some q) : Rn γ mX24_isWithin yX24_isWithin [va_rf l0, va_rf l1] (σ, .inr (some (.int q.1)), q.2) := by
  refine J_m hγ ykX24_isWithin rfl [(1, va_rf l0), (1, va_rf l1)] (cats_r (cats_r cats_nil)) (Nat.le_of_ble_eq_true rfl) ?_
  show J γ mX24_isWithin _ σ 0 [(0, 1, va_rf l0), (1, 1, va_rf l1)] []
  unfold X24_isWithin at h
  refine J_ic 1 dX24_isWithin_0 rfl (1 : Int32) kic_1 ?_
  refine J_istore_n (i := 2) 2 [(2, 1, .int (1 : Int32)), (0, 1, va_rf l0), (1, 1, va_rf l1)] dX24_isWithin_1 rfl rfl (Nat.le_of_ble_eq_true rfl) rfl ?_
  refine J_ic 3 dX24_isWithin_2 rfl (0 : Int32) kic_0 ?_
  refine J_istore_n (i := 3) 4 [(3, 1, .int (0 : Int32)), (2, 1, .int (1 : Int32)), (0, 1, va_rf l0), (1, 1, va_rf l1)] dX24_isWithin_3 rfl rfl (Nat.le_of_ble_eq_true rfl) rfl ?_
  refine J.pick [2, 3, 1, 0] rfl ?_
  refine jX24_isWithin_c4 hγ l0 l1  FUEL (1 : Int32) (0 : Int32) σ h
abbrev mX25_init : MP := (cX25_init, "MissCurves$Oldest", 1, (Option.none : Option FieldType), 1, "<init>", [])
theorem ykX25_init : YK yX25_init mX25_init 0 := ⟨q1892, q174, ⟨by decide, by decide⟩, by decide +kernel, Nat.le_of_ble_eq_true rfl, by decide, rfl, rfl⟩
def X25_init (l0 : Option Nat) (σ : Hp) : Option Hp :=
  l0.bind fun b1 =>
  some σ
set_option maxHeartbeats 4000000 in
theorem sX25_init {γ : GP} (hγ : GOK γ) (l0 : Option Nat) (σ : Hp) (q : Hp) (h : X25_init l0 σ = some q) : Rn γ mX25_init yX25_init [va_rf l0] (σ, .inr none, q) := by
  refine J_m hγ ykX25_init rfl [(1, va_rf l0)] (cats_r cats_nil) (Nat.le_of_ble_eq_true rfl) ?_
  show J γ mX25_init _ σ 0 [(0, 1, va_rf l0)] []
  unfold X25_init at h
  refine J_aload_n (i := 0) 0 1 dX25_init_0 rfl rfl rfl ?_
  obtain ⟨b1, hb1, h⟩ := some_of_bind h
  refine J_oI hb1 q1893 (Nat.le_of_ble_eq_true rfl) cs_nil (by decide) 4 dX25_init_1 rfl ?_
  exact J_vret rfl dX25_init_4 (retV h)
abbrev mX26_init : MP := (cX26_init, "MissCurves$Newest", 1, (Option.none : Option FieldType), 1, "<init>", [])
theorem ykX26_init : YK yX26_init mX26_init 0 := ⟨q1899, q175, ⟨by decide, by decide⟩, by decide +kernel, Nat.le_of_ble_eq_true rfl, by decide, rfl, rfl⟩
def X26_init (l0 : Option Nat) (σ : Hp) : Option Hp :=
  l0.bind fun b1 =>
  some σ
set_option maxHeartbeats 4000000 in
theorem sX26_init {γ : GP} (hγ : GOK γ) (l0 : Option Nat) (σ : Hp) (q : Hp) (h : X26_init l0 σ = some q) : Rn γ mX26_init yX26_init [va_rf l0] (σ, .inr none, q) := by
  refine J_m hγ ykX26_init rfl [(1, va_rf l0)] (cats_r cats_nil) (Nat.le_of_ble_eq_true rfl) ?_
  show J γ mX26_init _ σ 0 [(0, 1, va_rf l0)] []
  unfold X26_init at h
  refine J_aload_n (i := 0) 0 1 dX26_init_0 rfl rfl rfl ?_
  obtain ⟨b1, hb1, h⟩ := some_of_bind h
  refine J_oI hb1 q1900 (Nat.le_of_ble_eq_true rfl) cs_nil (by decide) 4 dX26_init_1 rfl ?_
  exact J_vret rfl dX26_init_4 (retV h)
abbrev mX27_init : MP := (cX27_init, "MissCurves$Longest", 1, (Option.none : Option FieldType), 1, "<init>", [])
theorem ykX27_init : YK yX27_init mX27_init 0 := ⟨q1906, q176, ⟨by decide, by decide⟩, by decide +kernel, Nat.le_of_ble_eq_true rfl, by decide, rfl, rfl⟩
def X27_init (l0 : Option Nat) (σ : Hp) : Option Hp :=
  l0.bind fun b1 =>
  some σ
set_option maxHeartbeats 4000000 in
theorem sX27_init {γ : GP} (hγ : GOK γ) (l0 : Option Nat) (σ : Hp) (q : Hp) (h : X27_init l0 σ = some q) : Rn γ mX27_init yX27_init [va_rf l0] (σ, .inr none, q) := by
  refine J_m hγ ykX27_init rfl [(1, va_rf l0)] (cats_r cats_nil) (Nat.le_of_ble_eq_true rfl) ?_
  show J γ mX27_init _ σ 0 [(0, 1, va_rf l0)] []
  unfold X27_init at h
  refine J_aload_n (i := 0) 0 1 dX27_init_0 rfl rfl rfl ?_
  obtain ⟨b1, hb1, h⟩ := some_of_bind h
  refine J_oI hb1 q1907 (Nat.le_of_ble_eq_true rfl) cs_nil (by decide) 4 dX27_init_1 rfl ?_
  exact J_vret rfl dX27_init_4 (retV h)
abbrev mX28_init : MP := (cX28_init, "MissCurves$Rarest", 1, (Option.none : Option FieldType), 1, "<init>", [])
theorem ykX28_init : YK yX28_init mX28_init 0 := ⟨q1913, q177, ⟨by decide, by decide⟩, by decide +kernel, Nat.le_of_ble_eq_true rfl, by decide, rfl, rfl⟩
def X28_init (l0 : Option Nat) (σ : Hp) : Option Hp :=
  l0.bind fun b1 =>
  some σ
set_option maxHeartbeats 4000000 in
theorem sX28_init {γ : GP} (hγ : GOK γ) (l0 : Option Nat) (σ : Hp) (q : Hp) (h : X28_init l0 σ = some q) : Rn γ mX28_init yX28_init [va_rf l0] (σ, .inr none, q) := by
  refine J_m hγ ykX28_init rfl [(1, va_rf l0)] (cats_r cats_nil) (Nat.le_of_ble_eq_true rfl) ?_
  show J γ mX28_init _ σ 0 [(0, 1, va_rf l0)] []
  unfold X28_init at h
  refine J_aload_n (i := 0) 0 1 dX28_init_0 rfl rfl rfl ?_
  obtain ⟨b1, hb1, h⟩ := some_of_bind h
  refine J_oI hb1 q1914 (Nat.le_of_ble_eq_true rfl) cs_nil (by decide) 4 dX28_init_1 rfl ?_
  exact J_vret rfl dX28_init_4 (retV h)
abbrev mX29_init : MP := (cX29_init, "MissCurves$Latest", 1, (Option.none : Option FieldType), 1, "<init>", [])
theorem ykX29_init : YK yX29_init mX29_init 0 := ⟨q1920, q178, ⟨by decide, by decide⟩, by decide +kernel, Nat.le_of_ble_eq_true rfl, by decide, rfl, rfl⟩
def X29_init (l0 : Option Nat) (σ : Hp) : Option Hp :=
  l0.bind fun b1 =>
  some σ
set_option maxHeartbeats 4000000 in
theorem sX29_init {γ : GP} (hγ : GOK γ) (l0 : Option Nat) (σ : Hp) (q : Hp) (h : X29_init l0 σ = some q) : Rn γ mX29_init yX29_init [va_rf l0] (σ, .inr none, q) := by
  refine J_m hγ ykX29_init rfl [(1, va_rf l0)] (cats_r cats_nil) (Nat.le_of_ble_eq_true rfl) ?_
  show J γ mX29_init _ σ 0 [(0, 1, va_rf l0)] []
  unfold X29_init at h
  refine J_aload_n (i := 0) 0 1 dX29_init_0 rfl rfl rfl ?_
  obtain ⟨b1, hb1, h⟩ := some_of_bind h
  refine J_oI hb1 q1921 (Nat.le_of_ble_eq_true rfl) cs_nil (by decide) 4 dX29_init_1 rfl ?_
  exact J_vret rfl dX29_init_4 (retV h)
abbrev mX8_of : MP := (cX8_of, "MissCurves$Leaving", 1, (Option.some (FieldType.object "MissCurves$Leaving")), 2, "of", [])
theorem ykX8_of : YK yX8_of mX8_of 1 := ⟨q1887, q155, ⟨by decide, by decide⟩, by decide +kernel, Nat.le_of_ble_eq_true rfl, by decide, rfl, rfl⟩
def X8_of (l0 : Int32) (σ : Hp) : Option (Option Nat × Hp) :=
  if l0 = (0 : Int32) then
    (some (hsz σ)).bind fun b3 =>
    (X25_init (some (hsz σ))  (wN σ 25 0 0)).bind fun q2 =>
    some ((some (hsz σ)), q2)
  else
  if l0 = (1 : Int32) then
    (some (hsz σ)).bind fun b6 =>
    (X26_init (some (hsz σ))  (wN σ 26 0 0)).bind fun q5 =>
    some ((some (hsz σ)), q5)
  else
  if l0 = (2 : Int32) then
    (some (hsz σ)).bind fun b9 =>
    (X27_init (some (hsz σ))  (wN σ 27 0 0)).bind fun q8 =>
    some ((some (hsz σ)), q8)
  else
  if l0 = (3 : Int32) then
    (some (hsz σ)).bind fun b12 =>
    (X28_init (some (hsz σ))  (wN σ 28 0 0)).bind fun q11 =>
    some ((some (hsz σ)), q11)
  else
  (some (hsz σ)).bind fun b14 =>
  (X29_init (some (hsz σ))  (wN σ 29 0 0)).bind fun q13 =>
  some ((some (hsz σ)), q13)
set_option maxHeartbeats 4000000 in
theorem sX8_of {γ : GP} (hγ : GOK γ) (l0 : Int32) (σ : Hp) (q : (Option Nat × Hp)) (h : X8_of l0 σ = some q) : Rn γ mX8_of yX8_of [.int l0] (σ, .inr (some (va_rf q.1)), q.2) := by
  refine J_m hγ ykX8_of rfl [(1, .int l0)] (cats_i cats_nil) (Nat.le_of_ble_eq_true rfl) ?_
  show J γ mX8_of _ σ 0 [(0, 1, .int l0)] []
  unfold X8_of at h
  refine J_iload_n (i := 0) 0 1 dX8_of_0 rfl rfl rfl ?_
  rcases Classical.em (l0 = (0 : Int32)) with c1 | c1
  · rw [if_pos c1] at h
    refine J_tsC c1 32 dX8_of_1 (by decide) (by decide) rfl (by decide) ?_
    refine J_new (c9 := 25) (nsl := 0) rfl (by decide) (by decide +kernel) q1888 q1889 q174 35 dX8_of_32 rfl ?_
    refine J_dupr 36 dX8_of_35 rfl ?_
    obtain ⟨b3, hb3, h⟩ := some_of_bind h
    obtain ⟨q2, hq2, h⟩ := some_of_bind h
    refine J_cI 39 dX8_of_36 rfl ykX25_init rfl (Or.inr ⟨_, q1890⟩) q1891 rfl (Nat.le_of_ble_eq_true rfl) (cs_rf cs_nil) (by decide) [] hb3 rfl rfl (sX25_init hγ (some (hsz σ))  (wN σ 25 0 0) q2 hq2) ?_
    refine J_goto 79 dX8_of_39 (by decide) ?_
    exact J_aret rfl (Or.inl ⟨_, rfl⟩) dX8_of_79 (retR h)
  · rw [if_neg c1] at h
    rcases Classical.em (l0 = (1 : Int32)) with c4 | c4
    · rw [if_pos c4] at h
      refine J_tsC c4 42 dX8_of_1 (by decide) (by decide) rfl (by decide) ?_
      refine J_new (c9 := 26) (nsl := 0) rfl (by decide) (by decide +kernel) q1895 q1896 q175 45 dX8_of_42 rfl ?_
      refine J_dupr 46 dX8_of_45 rfl ?_
      obtain ⟨b6, hb6, h⟩ := some_of_bind h
      obtain ⟨q5, hq5, h⟩ := some_of_bind h
      refine J_cI 49 dX8_of_46 rfl ykX26_init rfl (Or.inr ⟨_, q1897⟩) q1898 rfl (Nat.le_of_ble_eq_true rfl) (cs_rf cs_nil) (by decide) [] hb6 rfl rfl (sX26_init hγ (some (hsz σ))  (wN σ 26 0 0) q5 hq5) ?_
      refine J_goto 79 dX8_of_49 (by decide) ?_
      exact J_aret rfl (Or.inl ⟨_, rfl⟩) dX8_of_79 (retR h)
    · rw [if_neg c4] at h
      rcases Classical.em (l0 = (2 : Int32)) with c7 | c7
      · rw [if_pos c7] at h
        refine J_tsC c7 52 dX8_of_1 (by decide) (by decide) rfl (by decide) ?_
        refine J_new (c9 := 27) (nsl := 0) rfl (by decide) (by decide +kernel) q1902 q1903 q176 55 dX8_of_52 rfl ?_
        refine J_dupr 56 dX8_of_55 rfl ?_
        obtain ⟨b9, hb9, h⟩ := some_of_bind h
        obtain ⟨q8, hq8, h⟩ := some_of_bind h
        refine J_cI 59 dX8_of_56 rfl ykX27_init rfl (Or.inr ⟨_, q1904⟩) q1905 rfl (Nat.le_of_ble_eq_true rfl) (cs_rf cs_nil) (by decide) [] hb9 rfl rfl (sX27_init hγ (some (hsz σ))  (wN σ 27 0 0) q8 hq8) ?_
        refine J_goto 79 dX8_of_59 (by decide) ?_
        exact J_aret rfl (Or.inl ⟨_, rfl⟩) dX8_of_79 (retR h)
      · rw [if_neg c7] at h
        rcases Classical.em (l0 = (3 : Int32)) with c10 | c10
        · rw [if_pos c10] at h
          refine J_tsC c10 62 dX8_of_1 (by decide) (by decide) rfl (by decide) ?_
          refine J_new (c9 := 28) (nsl := 0) rfl (by decide) (by decide +kernel) q1909 q1910 q177 65 dX8_of_62 rfl ?_
          refine J_dupr 66 dX8_of_65 rfl ?_
          obtain ⟨b12, hb12, h⟩ := some_of_bind h
          obtain ⟨q11, hq11, h⟩ := some_of_bind h
          refine J_cI 69 dX8_of_66 rfl ykX28_init rfl (Or.inr ⟨_, q1911⟩) q1912 rfl (Nat.le_of_ble_eq_true rfl) (cs_rf cs_nil) (by decide) [] hb12 rfl rfl (sX28_init hγ (some (hsz σ))  (wN σ 28 0 0) q11 hq11) ?_
          refine J_goto 79 dX8_of_69 (by decide) ?_
          exact J_aret rfl (Or.inl ⟨_, rfl⟩) dX8_of_79 (retR h)
        · rw [if_neg c10] at h
          refine J_tsOut 72 dX8_of_1 (by have a0 := lv_neT c1 (a := 0) (by decide); have a1 := lv_neT c4 (a := 1) (by decide); have a2 := lv_neT c7 (a := 2) (by decide); have a3 := lv_neT c10 (a := 3) (by decide); omega) (by decide) ?_
          refine J_new (c9 := 29) (nsl := 0) rfl (by decide) (by decide +kernel) q1916 q1917 q178 75 dX8_of_72 rfl ?_
          refine J_dupr 76 dX8_of_75 rfl ?_
          obtain ⟨b14, hb14, h⟩ := some_of_bind h
          obtain ⟨q13, hq13, h⟩ := some_of_bind h
          refine J_cI 79 dX8_of_76 rfl ykX29_init rfl (Or.inr ⟨_, q1918⟩) q1919 rfl (Nat.le_of_ble_eq_true rfl) (cs_rf cs_nil) (by decide) [] hb14 rfl rfl (sX29_init hγ (some (hsz σ))  (wN σ 29 0 0) q13 hq13) ?_
          exact J_aret rfl (Or.inl ⟨_, rfl⟩) dX8_of_79 (retR h)
abbrev mX3_as : MP := (cX3_as, "MissCurves$Book", 2, (Option.some (FieldType.object "MissCurves$Book")), 1, "as", [])
theorem ykX3_as : YK yX3_as mX3_as 1 := ⟨q1592, q134, ⟨by decide, by decide⟩, by decide +kernel, Nat.le_of_ble_eq_true rfl, by decide, rfl, rfl⟩
theorem fk_x_189 : FOK "MissCurves$Book" 9 [3] 0 isR := FOK.one (by decide) rfl (Nat.le_of_ble_eq_true rfl) (Or.inl ⟨_, q235, Or.inl rfl⟩) rfl
theorem fk_x_190 : FOK "MissCurves$Book" 15 [3] 1 isR := FOK.one (by decide) rfl (Nat.le_of_ble_eq_true rfl) (Or.inl ⟨_, q237, Or.inl rfl⟩) rfl
theorem fk_x_191 : FOK "MissCurves$Book" 18 [3] 2 isR := FOK.one (by decide) rfl (Nat.le_of_ble_eq_true rfl) (Or.inl ⟨_, q240, Or.inl rfl⟩) rfl
theorem fk_x_192 : FOK "MissCurves$Book" 21 [3] 3 isR := FOK.one (by decide) rfl (Nat.le_of_ble_eq_true rfl) (Or.inl ⟨_, q241, Or.inl rfl⟩) rfl
theorem fk_x_193 : FOK "MissCurves$Book" 24 [3] 4 isR := FOK.one (by decide) rfl (Nat.le_of_ble_eq_true rfl) (Or.inl ⟨_, q244, Or.inl rfl⟩) rfl
theorem fk_x_194 : FOK "MissCurves$Book" 38 [3] 5 isI := FOK.one (by decide) rfl (Nat.le_of_ble_eq_true rfl) (Or.inl ⟨_, q247, Or.inl rfl⟩) rfl
theorem pk_x_195 {nm9 : String} : POK "MissCurves$Book" nm9 38 [3] 5 .int := POK.one (by decide) rfl (Nat.le_of_ble_eq_true rfl) (Or.inl ⟨_, q247, Or.inl rfl⟩) rfl (by decide +kernel) (Or.inl rfl)
theorem fk_x_196 : FOK "MissCurves$Book" 41 [3] 6 isI := FOK.one (by decide) rfl (Nat.le_of_ble_eq_true rfl) (Or.inl ⟨_, q249, Or.inl rfl⟩) rfl
theorem pk_x_197 {nm9 : String} : POK "MissCurves$Book" nm9 41 [3] 6 .int := POK.one (by decide) rfl (Nat.le_of_ble_eq_true rfl) (Or.inl ⟨_, q249, Or.inl rfl⟩) rfl (by decide +kernel) (Or.inl rfl)
theorem fk_x_198 : FOK "MissCurves$Book" 44 [3] 7 isI := FOK.one (by decide) rfl (Nat.le_of_ble_eq_true rfl) (Or.inl ⟨_, q251, Or.inl rfl⟩) rfl
theorem pk_x_199 {nm9 : String} : POK "MissCurves$Book" nm9 44 [3] 7 .int := POK.one (by decide) rfl (Nat.le_of_ble_eq_true rfl) (Or.inl ⟨_, q251, Or.inl rfl⟩) rfl (by decide +kernel) (Or.inl rfl)
theorem fk_x_200 : FOK "MissCurves$Book" 28 [3] 8 isI := FOK.one (by decide) rfl (Nat.le_of_ble_eq_true rfl) (Or.inl ⟨_, q254, Or.inl rfl⟩) rfl
theorem pk_x_201 {nm9 : String} : POK "MissCurves$Book" nm9 28 [3] 8 .int := POK.one (by decide) rfl (Nat.le_of_ble_eq_true rfl) (Or.inl ⟨_, q254, Or.inl rfl⟩) rfl (by decide +kernel) (Or.inl rfl)
def X3_as (l0 : Option Nat) (l1 : Option Nat) (σ : Hp) : Option (Option Nat × Hp) :=
  (gR σ l1 [3] 0).bind fun v1 =>
  (gR σ l0 [3] 0).bind fun v2 =>
  (gR σ l0 [3] 0).bind fun v3 =>
  (aN σ v3).bind fun v4 =>
  (cpI 0 σ v1 (0 : Int32) v2 (0 : Int32) v4).bind fun σ5 =>
  (gR σ5 l1 [3] 1).bind fun v6 =>
  (gR σ5 l0 [3] 1).bind fun v7 =>
  (gR σ5 l0 [3] 1).bind fun v8 =>
  (aN σ5 v8).bind fun v9 =>
  (cpI 0 σ5 v6 (0 : Int32) v7 (0 : Int32) v9).bind fun σ10 =>
  (gR σ10 l1 [3] 2).bind fun v11 =>
  (gR σ10 l0 [3] 2).bind fun v12 =>
  (gR σ10 l0 [3] 2).bind fun v13 =>
  (aN σ10 v13).bind fun v14 =>
  (cpI 0 σ10 v11 (0 : Int32) v12 (0 : Int32) v14).bind fun σ15 =>
  (gR σ15 l1 [3] 3).bind fun v16 =>
  (gR σ15 l0 [3] 3).bind fun v17 =>
  (cpI 0 σ15 v16 (0 : Int32) v17 (0 : Int32) (32 : Int32)).bind fun σ18 =>
  (gR σ18 l1 [3] 4).bind fun v19 =>
  (gR σ18 l0 [3] 4).bind fun v20 =>
  (gR σ18 l0 [3] 4).bind fun v21 =>
  (aN σ18 v21).bind fun v22 =>
  (cpL σ18 v19 (0 : Int32) v20 (0 : Int32) v22).bind fun σ23 =>
  (gI σ23 l1 [3] 5).bind fun v24 =>
  (pI σ23 l0 [3] 5 v24).bind fun σ25 =>
  (gI σ25 l1 [3] 6).bind fun v26 =>
  (pI σ25 l0 [3] 6 v26).bind fun σ27 =>
  (gI σ27 l1 [3] 7).bind fun v28 =>
  (pI σ27 l0 [3] 7 v28).bind fun σ29 =>
  (gI σ29 l1 [3] 8).bind fun v30 =>
  (pI σ29 l0 [3] 8 v30).bind fun σ31 =>
  some (l0, σ31)
set_option maxHeartbeats 4000000 in
theorem sX3_as {γ : GP} (hγ : GOK γ) (l0 : Option Nat) (l1 : Option Nat) (σ : Hp) (q : (Option Nat × Hp)) (h : X3_as l0 l1 σ = some q) : Rn γ mX3_as yX3_as [va_rf l0, va_rf l1] (σ, .inr (some (va_rf q.1)), q.2) := by
  refine J_m hγ ykX3_as rfl [(1, va_rf l0), (1, va_rf l1)] (cats_r (cats_r cats_nil)) (Nat.le_of_ble_eq_true rfl) ?_
  show J γ mX3_as _ σ 0 [(0, 1, va_rf l0), (1, 1, va_rf l1)] []
  unfold X3_as at h
  refine J_aload_n (i := 1) 1 1 dX3_as_0 rfl rfl rfl ?_
  obtain ⟨v1, hv1, h⟩ := some_of_bind h
  refine J_gR 4 dX3_as_1 rfl fk_x_189 hv1 ?_
  refine J_ic 5 dX3_as_4 rfl (0 : Int32) kic_0 ?_
  refine J_aload_n (i := 0) 0 6 dX3_as_5 rfl rfl rfl ?_
  obtain ⟨v2, hv2, h⟩ := some_of_bind h
  refine J_gR 9 dX3_as_6 rfl fk_x_189 hv2 ?_
  refine J_ic 10 dX3_as_9 rfl (0 : Int32) kic_0 ?_
  refine J_aload_n (i := 0) 0 11 dX3_as_10 rfl rfl rfl ?_
  obtain ⟨v3, hv3, h⟩ := some_of_bind h
  refine J_gR 14 dX3_as_11 rfl fk_x_189 hv3 ?_
  obtain ⟨v4, hv4, h⟩ := some_of_bind h
  refine J_alen 15 dX3_as_14 rfl hv4 ?_
  obtain ⟨σ5, hσ5, h⟩ := some_of_bind h
  refine J_cpI 0 (by decide) (by decide) rfl rfl q752 (Nat.le_of_ble_eq_true rfl) cs_nil (by decide) 18 dX3_as_15 rfl hσ5 ?_
  refine J_aload_n (i := 1) 1 19 dX3_as_18 rfl rfl rfl ?_
  obtain ⟨v6, hv6, h⟩ := some_of_bind h
  refine J_gR 22 dX3_as_19 rfl fk_x_190 hv6 ?_
  refine J_ic 23 dX3_as_22 rfl (0 : Int32) kic_0 ?_
  refine J_aload_n (i := 0) 0 24 dX3_as_23 rfl rfl rfl ?_
  obtain ⟨v7, hv7, h⟩ := some_of_bind h
  refine J_gR 27 dX3_as_24 rfl fk_x_190 hv7 ?_
  refine J_ic 28 dX3_as_27 rfl (0 : Int32) kic_0 ?_
  refine J_aload_n (i := 0) 0 29 dX3_as_28 rfl rfl rfl ?_
  obtain ⟨v8, hv8, h⟩ := some_of_bind h
  refine J_gR 32 dX3_as_29 rfl fk_x_190 hv8 ?_
  obtain ⟨v9, hv9, h⟩ := some_of_bind h
  refine J_alen 33 dX3_as_32 rfl hv9 ?_
  obtain ⟨σ10, hσ10, h⟩ := some_of_bind h
  refine J_cpI 0 (by decide) (by decide) rfl rfl q752 (Nat.le_of_ble_eq_true rfl) cs_nil (by decide) 36 dX3_as_33 rfl hσ10 ?_
  refine J_aload_n (i := 1) 1 37 dX3_as_36 rfl rfl rfl ?_
  obtain ⟨v11, hv11, h⟩ := some_of_bind h
  refine J_gR 40 dX3_as_37 rfl fk_x_191 hv11 ?_
  refine J_ic 41 dX3_as_40 rfl (0 : Int32) kic_0 ?_
  refine J_aload_n (i := 0) 0 42 dX3_as_41 rfl rfl rfl ?_
  obtain ⟨v12, hv12, h⟩ := some_of_bind h
  refine J_gR 45 dX3_as_42 rfl fk_x_191 hv12 ?_
  refine J_ic 46 dX3_as_45 rfl (0 : Int32) kic_0 ?_
  refine J_aload_n (i := 0) 0 47 dX3_as_46 rfl rfl rfl ?_
  obtain ⟨v13, hv13, h⟩ := some_of_bind h
  refine J_gR 50 dX3_as_47 rfl fk_x_191 hv13 ?_
  obtain ⟨v14, hv14, h⟩ := some_of_bind h
  refine J_alen 51 dX3_as_50 rfl hv14 ?_
  obtain ⟨σ15, hσ15, h⟩ := some_of_bind h
  refine J_cpI 0 (by decide) (by decide) rfl rfl q752 (Nat.le_of_ble_eq_true rfl) cs_nil (by decide) 54 dX3_as_51 rfl hσ15 ?_
  refine J_aload_n (i := 1) 1 55 dX3_as_54 rfl rfl rfl ?_
  obtain ⟨v16, hv16, h⟩ := some_of_bind h
  refine J_gR 58 dX3_as_55 rfl fk_x_192 hv16 ?_
  refine J_ic 59 dX3_as_58 rfl (0 : Int32) kic_0 ?_
  refine J_aload_n (i := 0) 0 60 dX3_as_59 rfl rfl rfl ?_
  obtain ⟨v17, hv17, h⟩ := some_of_bind h
  refine J_gR 63 dX3_as_60 rfl fk_x_192 hv17 ?_
  refine J_ic 64 dX3_as_63 rfl (0 : Int32) kic_0 ?_
  refine J_bipush 66 dX3_as_64 rfl (32 : Int32) kbp_32 ?_
  obtain ⟨σ18, hσ18, h⟩ := some_of_bind h
  refine J_cpI 0 (by decide) (by decide) rfl rfl q752 (Nat.le_of_ble_eq_true rfl) cs_nil (by decide) 69 dX3_as_66 rfl hσ18 ?_
  refine J_aload_n (i := 1) 1 70 dX3_as_69 rfl rfl rfl ?_
  obtain ⟨v19, hv19, h⟩ := some_of_bind h
  refine J_gR 73 dX3_as_70 rfl fk_x_193 hv19 ?_
  refine J_ic 74 dX3_as_73 rfl (0 : Int32) kic_0 ?_
  refine J_aload_n (i := 0) 0 75 dX3_as_74 rfl rfl rfl ?_
  obtain ⟨v20, hv20, h⟩ := some_of_bind h
  refine J_gR 78 dX3_as_75 rfl fk_x_193 hv20 ?_
  refine J_ic 79 dX3_as_78 rfl (0 : Int32) kic_0 ?_
  refine J_aload_n (i := 0) 0 80 dX3_as_79 rfl rfl rfl ?_
  obtain ⟨v21, hv21, h⟩ := some_of_bind h
  refine J_gR 83 dX3_as_80 rfl fk_x_193 hv21 ?_
  obtain ⟨v22, hv22, h⟩ := some_of_bind h
  refine J_alen 84 dX3_as_83 rfl hv22 ?_
  obtain ⟨σ23, hσ23, h⟩ := some_of_bind h
  refine J_cpL q752 (Nat.le_of_ble_eq_true rfl) cs_nil (by decide) 87 dX3_as_84 rfl hσ23 ?_
  refine J_aload_n (i := 0) 0 88 dX3_as_87 rfl rfl rfl ?_
  refine J_aload_n (i := 1) 1 89 dX3_as_88 rfl rfl rfl ?_
  obtain ⟨v24, hv24, h⟩ := some_of_bind h
  refine J_gI 92 dX3_as_89 rfl fk_x_194 hv24 ?_
  obtain ⟨σ25, hσ25, h⟩ := some_of_bind h
  refine J_pI 95 dX3_as_92 rfl pk_x_195 hσ25 ?_
  refine J_aload_n (i := 0) 0 96 dX3_as_95 rfl rfl rfl ?_
  refine J_aload_n (i := 1) 1 97 dX3_as_96 rfl rfl rfl ?_
  obtain ⟨v26, hv26, h⟩ := some_of_bind h
  refine J_gI 100 dX3_as_97 rfl fk_x_196 hv26 ?_
  obtain ⟨σ27, hσ27, h⟩ := some_of_bind h
  refine J_pI 103 dX3_as_100 rfl pk_x_197 hσ27 ?_
  refine J_aload_n (i := 0) 0 104 dX3_as_103 rfl rfl rfl ?_
  refine J_aload_n (i := 1) 1 105 dX3_as_104 rfl rfl rfl ?_
  obtain ⟨v28, hv28, h⟩ := some_of_bind h
  refine J_gI 108 dX3_as_105 rfl fk_x_198 hv28 ?_
  obtain ⟨σ29, hσ29, h⟩ := some_of_bind h
  refine J_pI 111 dX3_as_108 rfl pk_x_199 hσ29 ?_
  refine J_aload_n (i := 0) 0 112 dX3_as_111 rfl rfl rfl ?_
  refine J_aload_n (i := 1) 1 113 dX3_as_112 rfl rfl rfl ?_
  obtain ⟨v30, hv30, h⟩ := some_of_bind h
  refine J_gI 116 dX3_as_113 rfl fk_x_200 hv30 ?_
  obtain ⟨σ31, hσ31, h⟩ := some_of_bind h
  refine J_pI 119 dX3_as_116 rfl pk_x_201 hσ31 ?_
  refine J_aload_n (i := 0) 0 120 dX3_as_119 rfl rfl rfl ?_
  exact J_aret rfl (Or.inl ⟨_, rfl⟩) dX3_as_120 (retR h)
abbrev mX2_as : MP := (cX2_as, "MissCurves$Books", 3, (Option.some (FieldType.object "MissCurves$Books")), 2, "as", [])
theorem ykX2_as : YK yX2_as mX2_as 1 := ⟨q1588, q133, ⟨by decide, by decide⟩, by decide +kernel, Nat.le_of_ble_eq_true rfl, by decide, rfl, rfl⟩
theorem fk_x_202 : FOK "MissCurves$Books" 11 [2] 0 isR := FOK.one (by decide) rfl (Nat.le_of_ble_eq_true rfl) (Or.inl ⟨_, q277, Or.inl rfl⟩) rfl
theorem fk_x_203 : FOK "MissCurves$Books" 22 [2] 1 isI := FOK.one (by decide) rfl (Nat.le_of_ble_eq_true rfl) (Or.inl ⟨_, q280, Or.inl rfl⟩) rfl
theorem pk_x_204 {nm9 : String} : POK "MissCurves$Books" nm9 22 [2] 1 .int := POK.one (by decide) rfl (Nat.le_of_ble_eq_true rfl) (Or.inl ⟨_, q280, Or.inl rfl⟩) rfl (by decide +kernel) (Or.inl rfl)
theorem fk_x_205 : FOK "MissCurves$Books" 26 [2] 2 isI := FOK.one (by decide) rfl (Nat.le_of_ble_eq_true rfl) (Or.inl ⟨_, q282, Or.inl rfl⟩) rfl
theorem pk_x_206 {nm9 : String} : POK "MissCurves$Books" nm9 26 [2] 2 .int := POK.one (by decide) rfl (Nat.le_of_ble_eq_true rfl) (Or.inl ⟨_, q282, Or.inl rfl⟩) rfl (by decide +kernel) (Or.inl rfl)
def X2_as_c2 (l0 : Option Nat) (l1 : Option Nat) (k29 : Hp → Option (Option Nat × Hp)) : Nat → Int32 → Hp → Option (Option Nat × Hp)
  | 0, _, _ => none
  | n + 1, l2, σ =>
    if (4 : Int32) ≤ l2 then
      k29  σ
    else
      (gR σ l0 [2] 0).bind fun v2 =>
      (aR 7 σ v2 l2).bind fun v3 =>
      (gR σ l1 [2] 0).bind fun v4 =>
      (aR 7 σ v4 l2).bind fun v5 =>
      (cT σ v3 3).bind fun b7 =>
      (X3_as v3 v5 σ).bind fun q6 =>
      X2_as_c2 l0 l1 k29 n (l2 + (1 : Int32)) q6.2
set_option maxHeartbeats 4000000 in
theorem jX2_as_c2 {γ : GP} {σ0 : Hp} {q : (Option Nat × Hp)} (hγ : GOK γ) (l0 : Option Nat) (l1 : Option Nat) {k29 : Hp → Option (Option Nat × Hp)} (hk29 : ∀  (σ : Hp), k29  σ = some q → J γ mX2_as (σ0, .inr (some (va_rf q.1)), q.2) σ 29 [(0, 1, va_rf l0), (1, 1, va_rf l1)] []) : ∀ (n : Nat) (l2 : Int32) (σ : Hp), X2_as_c2 l0 l1 k29 n l2 σ = some q → J γ mX2_as (σ0, .inr (some (va_rf q.1)), q.2) σ 2 [(0, 1, va_rf l0), (1, 1, va_rf l1), (2, 1, .int l2)] [] := by
  intro n
  induction n with
  | zero => intro l2 σ h; exact nomatch (show none = some q from h)
  | succ n ih =>
    intro l2 σ h
    rw [X2_as_c2] at h
    refine J_iload_n (i := 2) 2 3 dX2_as_2 rfl rfl rfl ?_
    refine J_ic 4 dX2_as_3 rfl (4 : Int32) kic_4 ?_
    refine J_icmp_ge 29 7 dX2_as_4 (by decide) rfl (fun c1 => ?_) (fun c1 => ?_)
    · rw [if_pos c1] at h
      refine J.pick [0, 1] rfl ?_
      exact hk29  σ h
    · rw [if_neg c1] at h
      refine J_aload_n (i := 0) 0 8 dX2_as_7 rfl rfl rfl ?_
      obtain ⟨v2, hv2, h⟩ := some_of_bind h
      refine J_gR 11 dX2_as_8 rfl fk_x_202 hv2 ?_
      refine J_iload_n (i := 2) 2 12 dX2_as_11 rfl rfl rfl ?_
      obtain ⟨v3, hv3, h⟩ := some_of_bind h
      refine J_aald 7 (by decide) (by decide) rfl 13 dX2_as_12 rfl hv3 ?_
      refine J_aload_n (i := 1) 1 14 dX2_as_13 rfl rfl rfl ?_
      obtain ⟨v4, hv4, h⟩ := some_of_bind h
      refine J_gR 17 dX2_as_14 rfl fk_x_202 hv4 ?_
      refine J_iload_n (i := 2) 2 18 dX2_as_17 rfl rfl rfl ?_
      obtain ⟨v5, hv5, h⟩ := some_of_bind h
      refine J_aald 7 (by decide) (by decide) rfl 19 dX2_as_18 rfl hv5 ?_
      obtain ⟨b7, hb7, h⟩ := some_of_bind h
      obtain ⟨q6, hq6, h⟩ := some_of_bind h
      refine J_cVr 22 dX2_as_19 rfl ykX3_as (Or.inl q1589) q1590 q1591 (Nat.le_of_ble_eq_true rfl) cs_nil (by decide) [va_rf v5] hb7 (by decide) rfl rfl rfl (sX3_as hγ v3 v5 σ q6 hq6) ?_
      refine J_popr 23 dX2_as_22 rfl ?_
      refine J_iinc (i := 2) (v := l2 + (1 : Int32)) 2 26 [(2, 1, .int (l2 + (1 : Int32))), (0, 1, va_rf l0), (1, 1, va_rf l1)] dX2_as_23 rfl rfl (Nat.le_of_ble_eq_true rfl) (by rw [kic_1]) rfl ?_
      refine J_goto 2 dX2_as_26 (by decide) ?_
      refine J.pick [1, 2, 0] rfl ?_
      exact ih (l2 + (1 : Int32)) q6.2 h
def X2_as (l0 : Option Nat) (l1 : Option Nat) (σ : Hp) : Option (Option Nat × Hp) :=
  X2_as_c2 l0 l1 (fun τ1 =>
    (gI τ1 l1 [2] 1).bind fun v2 =>
    (pI τ1 l0 [2] 1 v2).bind fun σ3 =>
    (gI σ3 l1 [2] 2).bind fun v4 =>
    (pI σ3 l0 [2] 2 v4).bind fun σ5 =>
    some (l0, σ5)) FUEL (0 : Int32) σ
set_option maxHeartbeats 4000000 in
theorem sX2_as {γ : GP} (hγ : GOK γ) (l0 : Option Nat) (l1 : Option Nat) (σ : Hp) (q : (Option Nat × Hp)) (h : X2_as l0 l1 σ = some q) : Rn γ mX2_as yX2_as [va_rf l0, va_rf l1] (σ, .inr (some (va_rf q.1)), q.2) := by
  refine J_m hγ ykX2_as rfl [(1, va_rf l0), (1, va_rf l1)] (cats_r (cats_r cats_nil)) (Nat.le_of_ble_eq_true rfl) ?_
  show J γ mX2_as _ σ 0 [(0, 1, va_rf l0), (1, 1, va_rf l1)] []
  unfold X2_as at h
  refine J_ic 1 dX2_as_0 rfl (0 : Int32) kic_0 ?_
  refine J_istore_n (i := 2) 2 [(2, 1, .int (0 : Int32)), (0, 1, va_rf l0), (1, 1, va_rf l1)] dX2_as_1 rfl rfl (Nat.le_of_ble_eq_true rfl) rfl ?_
  refine J.pick [1, 2, 0] rfl ?_
  refine jX2_as_c2 hγ l0 l1 (fun τ1 h => ?_) FUEL (0 : Int32) σ h
  · refine J_aload_n (i := 0) 0 30 dX2_as_29 rfl rfl rfl ?_
    refine J_aload_n (i := 1) 1 31 dX2_as_30 rfl rfl rfl ?_
    obtain ⟨v2, hv2, h⟩ := some_of_bind h
    refine J_gI 34 dX2_as_31 rfl fk_x_203 hv2 ?_
    obtain ⟨σ3, hσ3, h⟩ := some_of_bind h
    refine J_pI 37 dX2_as_34 rfl pk_x_204 hσ3 ?_
    refine J_aload_n (i := 0) 0 38 dX2_as_37 rfl rfl rfl ?_
    refine J_aload_n (i := 1) 1 39 dX2_as_38 rfl rfl rfl ?_
    obtain ⟨v4, hv4, h⟩ := some_of_bind h
    refine J_gI 42 dX2_as_39 rfl fk_x_205 hv4 ?_
    obtain ⟨σ5, hσ5, h⟩ := some_of_bind h
    refine J_pI 45 dX2_as_42 rfl pk_x_206 hσ5 ?_
    refine J_aload_n (i := 0) 0 46 dX2_as_45 rfl rfl rfl ?_
    exact J_aret rfl (Or.inl ⟨_, rfl⟩) dX2_as_46 (retR h)
abbrev mX3_init : MP := (cX3_init, "MissCurves$Book", 1, (Option.none : Option FieldType), 1, "<init>", [])
theorem ykX3_init : YK yX3_init mX3_init 0 := ⟨q233, q134, ⟨by decide, by decide⟩, by decide +kernel, Nat.le_of_ble_eq_true rfl, by decide, rfl, rfl⟩
theorem pk_x_207 : POK "MissCurves$Book" "<init>" 9 [3] 0 (.array .int) := POK.one (by decide) rfl (Nat.le_of_ble_eq_true rfl) (Or.inl ⟨_, q235, Or.inl rfl⟩) rfl (by decide +kernel) (Or.inr ⟨rfl, rfl, rfl, _, q235, Or.inl rfl⟩)
theorem pk_x_208 : POK "MissCurves$Book" "<init>" 15 [3] 1 (.array .int) := POK.one (by decide) rfl (Nat.le_of_ble_eq_true rfl) (Or.inl ⟨_, q237, Or.inl rfl⟩) rfl (by decide +kernel) (Or.inr ⟨rfl, rfl, rfl, _, q237, Or.inl rfl⟩)
theorem pk_x_209 : POK "MissCurves$Book" "<init>" 18 [3] 2 (.array .int) := POK.one (by decide) rfl (Nat.le_of_ble_eq_true rfl) (Or.inl ⟨_, q240, Or.inl rfl⟩) rfl (by decide +kernel) (Or.inr ⟨rfl, rfl, rfl, _, q240, Or.inl rfl⟩)
theorem pk_x_210 : POK "MissCurves$Book" "<init>" 21 [3] 3 (.array .int) := POK.one (by decide) rfl (Nat.le_of_ble_eq_true rfl) (Or.inl ⟨_, q241, Or.inl rfl⟩) rfl (by decide +kernel) (Or.inr ⟨rfl, rfl, rfl, _, q241, Or.inl rfl⟩)
theorem pk_x_211 : POK "MissCurves$Book" "<init>" 24 [3] 4 (.array .long) := POK.one (by decide) rfl (Nat.le_of_ble_eq_true rfl) (Or.inl ⟨_, q244, Or.inl rfl⟩) rfl (by decide +kernel) (Or.inr ⟨rfl, rfl, rfl, _, q244, Or.inl rfl⟩)
theorem pk_x_212 {nm9 : String} : POK "MissCurves$Book" nm9 28 [3] 8 .int := POK.one (by decide) rfl (Nat.le_of_ble_eq_true rfl) (Or.inl ⟨_, q254, Or.inl rfl⟩) rfl (by decide +kernel) (Or.inl rfl)
def X3_init (l0 : Option Nat) (σ : Hp) : Option Hp :=
  l0.bind fun b1 =>
  (nA 0 σ (25 : Int32)).bind fun σ2 =>
  (pR σ2 l0 [3] 0 (some (hsz σ))).bind fun σ3 =>
  (nA 0 σ3 (25 : Int32)).bind fun σ4 =>
  (pR σ4 l0 [3] 1 (some (hsz σ3))).bind fun σ5 =>
  (nA 0 σ5 (7 : Int32)).bind fun σ6 =>
  (pR σ6 l0 [3] 2 (some (hsz σ5))).bind fun σ7 =>
  (nA 0 σ7 (32 : Int32)).bind fun σ8 =>
  (pR σ8 l0 [3] 3 (some (hsz σ7))).bind fun σ9 =>
  (nA 1 σ9 (26 : Int32)).bind fun σ10 =>
  (pR σ10 l0 [3] 4 (some (hsz σ9))).bind fun σ11 =>
  (pI σ11 l0 [3] 8 (1000 : Int32)).bind fun σ12 =>
  some σ12
set_option maxHeartbeats 4000000 in
theorem sX3_init {γ : GP} (hγ : GOK γ) (l0 : Option Nat) (σ : Hp) (q : Hp) (h : X3_init l0 σ = some q) : Rn γ mX3_init yX3_init [va_rf l0] (σ, .inr none, q) := by
  refine J_m hγ ykX3_init rfl [(1, va_rf l0)] (cats_r cats_nil) (Nat.le_of_ble_eq_true rfl) ?_
  show J γ mX3_init _ σ 0 [(0, 1, va_rf l0)] []
  unfold X3_init at h
  refine J_aload_n (i := 0) 0 1 dX3_init_0 rfl rfl rfl ?_
  obtain ⟨b1, hb1, h⟩ := some_of_bind h
  refine J_oI hb1 q234 (Nat.le_of_ble_eq_true rfl) cs_nil (by decide) 4 dX3_init_1 rfl ?_
  refine J_aload_n (i := 0) 0 5 dX3_init_4 rfl rfl rfl ?_
  refine J_bipush 7 dX3_init_5 rfl (25 : Int32) kbp_25 ?_
  obtain ⟨σ2, hσ2, h⟩ := some_of_bind h
  refine J_newI 9 dX3_init_7 rfl hσ2 ?_
  obtain ⟨σ3, hσ3, h⟩ := some_of_bind h
  refine J_pR rfl 12 dX3_init_9 rfl pk_x_207 hσ3 ?_
  refine J_aload_n (i := 0) 0 13 dX3_init_12 rfl rfl rfl ?_
  refine J_bipush 15 dX3_init_13 rfl (25 : Int32) kbp_25 ?_
  obtain ⟨σ4, hσ4, h⟩ := some_of_bind h
  refine J_newI 17 dX3_init_15 rfl hσ4 ?_
  obtain ⟨σ5, hσ5, h⟩ := some_of_bind h
  refine J_pR rfl 20 dX3_init_17 rfl pk_x_208 hσ5 ?_
  refine J_aload_n (i := 0) 0 21 dX3_init_20 rfl rfl rfl ?_
  refine J_bipush 23 dX3_init_21 rfl (7 : Int32) kbp_7 ?_
  obtain ⟨σ6, hσ6, h⟩ := some_of_bind h
  refine J_newI 25 dX3_init_23 rfl hσ6 ?_
  obtain ⟨σ7, hσ7, h⟩ := some_of_bind h
  refine J_pR rfl 28 dX3_init_25 rfl pk_x_209 hσ7 ?_
  refine J_aload_n (i := 0) 0 29 dX3_init_28 rfl rfl rfl ?_
  refine J_bipush 31 dX3_init_29 rfl (32 : Int32) kbp_32 ?_
  obtain ⟨σ8, hσ8, h⟩ := some_of_bind h
  refine J_newI 33 dX3_init_31 rfl hσ8 ?_
  obtain ⟨σ9, hσ9, h⟩ := some_of_bind h
  refine J_pR rfl 36 dX3_init_33 rfl pk_x_210 hσ9 ?_
  refine J_aload_n (i := 0) 0 37 dX3_init_36 rfl rfl rfl ?_
  refine J_bipush 39 dX3_init_37 rfl (26 : Int32) kbp_26 ?_
  obtain ⟨σ10, hσ10, h⟩ := some_of_bind h
  refine J_newL 41 dX3_init_39 rfl hσ10 ?_
  obtain ⟨σ11, hσ11, h⟩ := some_of_bind h
  refine J_pR rfl 44 dX3_init_41 rfl pk_x_211 hσ11 ?_
  refine J_aload_n (i := 0) 0 45 dX3_init_44 rfl rfl rfl ?_
  refine J_sipush 48 dX3_init_45 rfl (1000 : Int32) ksp_1000 ?_
  obtain ⟨σ12, hσ12, h⟩ := some_of_bind h
  refine J_pI 51 dX3_init_48 rfl pk_x_212 hσ12 ?_
  exact J_vret rfl dX3_init_51 (retV h)
abbrev mX2_init : MP := (cX2_init, "MissCurves$Books", 2, (Option.none : Option FieldType), 2, "<init>", [])
theorem ykX2_init : YK yX2_init mX2_init 0 := ⟨q226, q133, ⟨by decide, by decide⟩, by decide +kernel, Nat.le_of_ble_eq_true rfl, by decide, rfl, rfl⟩
theorem pk_x_213 : POK "MissCurves$Books" "<init>" 11 [2] 0 (.array (.object "MissCurves$Book")) := POK.one (by decide) rfl (Nat.le_of_ble_eq_true rfl) (Or.inl ⟨_, q277, Or.inl rfl⟩) rfl (by decide +kernel) (Or.inr ⟨rfl, rfl, rfl, _, q277, Or.inl rfl⟩)
def X2_init_c14 (l0 : Option Nat)  : Nat → Int32 → Hp → Option Hp
  | 0, _, _ => none
  | n + 1, l1, σ =>
    if (4 : Int32) ≤ l1 then
      some σ
    else
      (gR σ l0 [2] 0).bind fun v2 =>
      (some (hsz σ)).bind fun b4 =>
      (X3_init (some (hsz σ))  (wN σ 3 0 9)).bind fun q3 =>
      (sR 7 q3 v2 l1 (some (hsz σ))).bind fun σ5 =>
      X2_init_c14 l0 n (l1 + (1 : Int32)) σ5
set_option maxHeartbeats 4000000 in
theorem jX2_init_c14 {γ : GP} {σ0 : Hp} {q : Hp} (hγ : GOK γ) (l0 : Option Nat)  : ∀ (n : Nat) (l1 : Int32) (σ : Hp), X2_init_c14 l0 n l1 σ = some q → J γ mX2_init (σ0, .inr none, q) σ 14 [(0, 1, va_rf l0), (1, 1, .int l1)] [] := by
  intro n
  induction n with
  | zero => intro l1 σ h; exact nomatch (show none = some q from h)
  | succ n ih =>
    intro l1 σ h
    rw [X2_init_c14] at h
    refine J_iload_n (i := 1) 1 15 dX2_init_14 rfl rfl rfl ?_
    refine J_ic 16 dX2_init_15 rfl (4 : Int32) kic_4 ?_
    refine J_icmp_ge 38 19 dX2_init_16 (by decide) rfl (fun c1 => ?_) (fun c1 => ?_)
    · rw [if_pos c1] at h
      exact J_vret rfl dX2_init_38 (retV h)
    · rw [if_neg c1] at h
      refine J_aload_n (i := 0) 0 20 dX2_init_19 rfl rfl rfl ?_
      obtain ⟨v2, hv2, h⟩ := some_of_bind h
      refine J_gR 23 dX2_init_20 rfl fk_x_202 hv2 ?_
      refine J_iload_n (i := 1) 1 24 dX2_init_23 rfl rfl rfl ?_
      refine J_new (c9 := 3) (nsl := 9) rfl (by decide) (by decide +kernel) q228 q230 q134 27 dX2_init_24 rfl ?_
      refine J_dupr 28 dX2_init_27 rfl ?_
      obtain ⟨b4, hb4, h⟩ := some_of_bind h
      obtain ⟨q3, hq3, h⟩ := some_of_bind h
      refine J_cI 31 dX2_init_28 rfl ykX3_init rfl (Or.inr ⟨_, q231⟩) q232 rfl (Nat.le_of_ble_eq_true rfl) (cs_rf (cs_int (cs_rf cs_nil))) (by decide) [] hb4 rfl rfl (sX3_init hγ (some (hsz σ))  (wN σ 3 0 9) q3 hq3) ?_
      obtain ⟨σ5, hσ5, h⟩ := some_of_bind h
      refine J_aast 7 (by decide) (by decide) 32 dX2_init_31 rfl hσ5 ?_
      refine J_iinc (i := 1) (v := l1 + (1 : Int32)) 1 35 [(1, 1, .int (l1 + (1 : Int32))), (0, 1, va_rf l0)] dX2_init_32 rfl rfl (Nat.le_of_ble_eq_true rfl) (by rw [kic_1]) rfl ?_
      refine J_goto 14 dX2_init_35 (by decide) ?_
      refine J.pick [1, 0] rfl ?_
      exact ih (l1 + (1 : Int32)) σ5 h
def X2_init (l0 : Option Nat) (σ : Hp) : Option Hp :=
  l0.bind fun b1 =>
  (nA 7 σ (4 : Int32)).bind fun σ2 =>
  (pR σ2 l0 [2] 0 (some (hsz σ))).bind fun σ3 =>
  X2_init_c14 l0  FUEL (0 : Int32) σ3
set_option maxHeartbeats 4000000 in
theorem sX2_init {γ : GP} (hγ : GOK γ) (l0 : Option Nat) (σ : Hp) (q : Hp) (h : X2_init l0 σ = some q) : Rn γ mX2_init yX2_init [va_rf l0] (σ, .inr none, q) := by
  refine J_m hγ ykX2_init rfl [(1, va_rf l0)] (cats_r cats_nil) (Nat.le_of_ble_eq_true rfl) ?_
  show J γ mX2_init _ σ 0 [(0, 1, va_rf l0)] []
  unfold X2_init at h
  refine J_aload_n (i := 0) 0 1 dX2_init_0 rfl rfl rfl ?_
  obtain ⟨b1, hb1, h⟩ := some_of_bind h
  refine J_oI hb1 q227 (Nat.le_of_ble_eq_true rfl) cs_nil (by decide) 4 dX2_init_1 rfl ?_
  refine J_aload_n (i := 0) 0 5 dX2_init_4 rfl rfl rfl ?_
  refine J_ic 6 dX2_init_5 rfl (4 : Int32) kic_4 ?_
  obtain ⟨σ2, hσ2, h⟩ := some_of_bind h
  refine J_anew 7 (by decide) (by decide) rfl q228 q229 9 dX2_init_6 rfl hσ2 ?_
  obtain ⟨σ3, hσ3, h⟩ := some_of_bind h
  refine J_pR rfl 12 dX2_init_9 rfl pk_x_213 hσ3 ?_
  refine J_ic 13 dX2_init_12 rfl (0 : Int32) kic_0 ?_
  refine J_istore_n (i := 1) 14 [(1, 1, .int (0 : Int32)), (0, 1, va_rf l0)] dX2_init_13 rfl rfl (Nat.le_of_ble_eq_true rfl) rfl ?_
  refine J.pick [1, 0] rfl ?_
  refine jX2_init_c14 hγ l0  FUEL (0 : Int32) σ3 h
abbrev mX30_init : MP := (cX30_init, "MissCurves$Draws", 2, (Option.none : Option FieldType), 1, "<init>", [])
theorem ykX30_init : YK yX30_init mX30_init 1 := ⟨q2138, q179, ⟨by decide, by decide⟩, by decide +kernel, Nat.le_of_ble_eq_true rfl, by decide, rfl, rfl⟩
theorem pk_x_214 {nm9 : String} : POK "MissCurves$Draws" nm9 7 [30] 0 .long := POK.one (by decide) rfl (Nat.le_of_ble_eq_true rfl) (Or.inl ⟨_, q2140, Or.inl rfl⟩) rfl (by decide +kernel) (Or.inl rfl)
def X30_init (l0 : Option Nat) (l1 : Int32) (σ : Hp) : Option Hp :=
  l0.bind fun b1 =>
  (pL σ l0 [30] 0 l1.toInt64).bind fun σ2 =>
  some σ2
set_option maxHeartbeats 4000000 in
theorem sX30_init {γ : GP} (hγ : GOK γ) (l0 : Option Nat) (l1 : Int32) (σ : Hp) (q : Hp) (h : X30_init l0 l1 σ = some q) : Rn γ mX30_init yX30_init [va_rf l0, .int l1] (σ, .inr none, q) := by
  refine J_m hγ ykX30_init rfl [(1, va_rf l0), (1, .int l1)] (cats_r (cats_i cats_nil)) (Nat.le_of_ble_eq_true rfl) ?_
  show J γ mX30_init _ σ 0 [(0, 1, va_rf l0), (1, 1, .int l1)] []
  unfold X30_init at h
  refine J_aload_n (i := 0) 0 1 dX30_init_0 rfl rfl rfl ?_
  obtain ⟨b1, hb1, h⟩ := some_of_bind h
  refine J_oI hb1 q2139 (Nat.le_of_ble_eq_true rfl) cs_nil (by decide) 4 dX30_init_1 rfl ?_
  refine J_aload_n (i := 0) 0 5 dX30_init_4 rfl rfl rfl ?_
  refine J_iload_n (i := 1) 1 6 dX30_init_5 rfl rfl rfl ?_
  refine J_i2l 7 dX30_init_6 rfl ?_
  obtain ⟨σ2, hσ2, h⟩ := some_of_bind h
  refine J_pL 10 dX30_init_7 rfl pk_x_214 hσ2 ?_
  exact J_vret rfl dX30_init_10 (retV h)
abbrev mX30_next : MP := (cX30_next, "MissCurves$Draws", 2, (Option.some FieldType.int), 0, "next", [])
theorem ykX30_next : YK yX30_next mX30_next 1 := ⟨q2147, q179, ⟨by decide, by decide⟩, by decide +kernel, Nat.le_of_ble_eq_true rfl, by decide, rfl, rfl⟩
theorem fk_x_215 : FOK "MissCurves$Draws" 7 [30] 0 isL := FOK.one (by decide) rfl (Nat.le_of_ble_eq_true rfl) (Or.inl ⟨_, q2140, Or.inl rfl⟩) rfl
theorem pk_x_216 {nm9 : String} : POK "MissCurves$Draws" nm9 7 [30] 0 .long := POK.one (by decide) rfl (Nat.le_of_ble_eq_true rfl) (Or.inl ⟨_, q2140, Or.inl rfl⟩) rfl (by decide +kernel) (Or.inl rfl)
def X30_next (l0 : Option Nat) (l1 : Int32) (σ : Hp) : Option (Int32 × Hp) :=
  (gL σ l0 [30] 0).bind fun v1 =>
  (pL σ l0 [30] 0 (lrm ((v1 * (1103 : Int64)) + (12345 : Int64)) (1000003 : Int64))).bind fun σ2 =>
  (gL σ2 l0 [30] 0).bind fun v3 =>
  if l1.toInt64 = 0 then none else
  some ((lrm v3 l1.toInt64).toInt32, σ2)
set_option maxHeartbeats 4000000 in
theorem sX30_next {γ : GP} (hγ : GOK γ) (l0 : Option Nat) (l1 : Int32) (σ : Hp) (q : (Int32 × Hp)) (h : X30_next l0 l1 σ = some q) : Rn γ mX30_next yX30_next [va_rf l0, .int l1] (σ, .inr (some (.int q.1)), q.2) := by
  refine J_m hγ ykX30_next rfl [(1, va_rf l0), (1, .int l1)] (cats_r (cats_i cats_nil)) (Nat.le_of_ble_eq_true rfl) ?_
  show J γ mX30_next _ σ 0 [(0, 1, va_rf l0), (1, 1, .int l1)] []
  unfold X30_next at h
  refine J_aload_n (i := 0) 0 1 dX30_next_0 rfl rfl rfl ?_
  refine J_aload_n (i := 0) 0 2 dX30_next_1 rfl rfl rfl ?_
  obtain ⟨v1, hv1, h⟩ := some_of_bind h
  refine J_gL 5 dX30_next_2 rfl fk_x_215 hv1 ?_
  refine J_ldc2 (v := (1103 : Int64)) 8 dX30_next_5 rfl q2148 ?_
  refine J_lmul 9 dX30_next_8 rfl ?_
  refine J_ldc2 (v := (12345 : Int64)) 12 dX30_next_9 rfl q2149 ?_
  refine J_ladd 13 dX30_next_12 rfl ?_
  refine J_ldc2 (v := (1000003 : Int64)) 16 dX30_next_13 rfl q2150 ?_
  refine J_lrem 17 dX30_next_16 rfl (by decide) ?_
  obtain ⟨σ2, hσ2, h⟩ := some_of_bind h
  refine J_pL 20 dX30_next_17 rfl pk_x_216 hσ2 ?_
  refine J_aload_n (i := 0) 0 21 dX30_next_20 rfl rfl rfl ?_
  obtain ⟨v3, hv3, h⟩ := some_of_bind h
  refine J_gL 24 dX30_next_21 rfl fk_x_215 hv3 ?_
  refine J_iload_n (i := 1) 1 25 dX30_next_24 rfl rfl rfl ?_
  refine J_i2l 26 dX30_next_25 rfl ?_
  rcases Classical.em (l1.toInt64 = 0) with c4 | c4
  · rw [if_pos c4] at h; cases h
  · rw [if_neg c4] at h
    refine J_lrem 27 dX30_next_26 rfl c4 ?_
    refine J_l2i 28 dX30_next_27 rfl ?_
    exact J_iret rfl dX30_next_28 (retI h)
abbrev mX3_placeIn : MP := (cX3_placeIn, "MissCurves$Book", 5, (Option.some FieldType.int), 0, "placeIn", [])
theorem ykX3_placeIn : YK yX3_placeIn mX3_placeIn 3 := ⟨q523, q134, ⟨by decide, by decide⟩, by decide +kernel, Nat.le_of_ble_eq_true rfl, by decide, rfl, rfl⟩
def X3_placeIn_c5 (l0 : Option Nat) (l1 : Int32) (l2 : Int32)  : Nat → Int32 → Int32 → Hp → Option (Int32 × Hp)
  | 0, _, _, _ => none
  | n + 1, l3, l4, σ =>
    if l1 ≤ l4 then
      some (l3, σ)
    else
      (aI 0 σ l0 l4).bind fun v2 =>
      if v2 = l2 then
        X3_placeIn_c5 l0 l1 l2 n (l4 + (1 : Int32)) (l4 + (1 : Int32)) σ
      else
        X3_placeIn_c5 l0 l1 l2 n l3 (l4 + (1 : Int32)) σ
set_option maxHeartbeats 4000000 in
theorem jX3_placeIn_c5 {γ : GP} {σ0 : Hp} {q : (Int32 × Hp)} (hγ : GOK γ) (l0 : Option Nat) (l1 : Int32) (l2 : Int32)  : ∀ (n : Nat) (l3 : Int32) (l4 : Int32) (σ : Hp), X3_placeIn_c5 l0 l1 l2 n l3 l4 σ = some q → J γ mX3_placeIn (σ0, .inr (some (.int q.1)), q.2) σ 5 [(0, 1, va_rf l0), (1, 1, .int l1), (2, 1, .int l2), (3, 1, .int l3), (4, 1, .int l4)] [] := by
  intro n
  induction n with
  | zero => intro l3 l4 σ h; exact nomatch (show none = some q from h)
  | succ n ih =>
    intro l3 l4 σ h
    rw [X3_placeIn_c5] at h
    refine J_iload (i := 4) 4 7 dX3_placeIn_5 rfl rfl ?_
    refine J_iload_n (i := 1) 1 8 dX3_placeIn_7 rfl rfl rfl ?_
    refine J_icmp_ge 34 11 dX3_placeIn_8 (by decide) rfl (fun c1 => ?_) (fun c1 => ?_)
    · rw [if_pos c1] at h
      refine J_iload_n (i := 3) 3 35 dX3_placeIn_34 rfl rfl rfl ?_
      exact J_iret rfl dX3_placeIn_35 (retI h)
    · rw [if_neg c1] at h
      refine J_aload_n (i := 0) 0 12 dX3_placeIn_11 rfl rfl rfl ?_
      refine J_iload (i := 4) 4 14 dX3_placeIn_12 rfl rfl ?_
      obtain ⟨v2, hv2, h⟩ := some_of_bind h
      refine J_iald 15 dX3_placeIn_14 rfl hv2 ?_
      refine J_iload_n (i := 2) 2 16 dX3_placeIn_15 rfl rfl rfl ?_
      refine J_icmp_ne 26 19 dX3_placeIn_16 (by decide) rfl (fun c3 => ?_) (fun c3 => ?_)
      · rw [if_neg c3] at h
        refine J_iload_n (i := 3) 3 27 dX3_placeIn_26 rfl rfl rfl ?_
        refine J_istore_n (i := 3) 28 [(3, 1, .int l3), (0, 1, va_rf l0), (1, 1, .int l1), (2, 1, .int l2), (4, 1, .int l4)] dX3_placeIn_27 rfl rfl (Nat.le_of_ble_eq_true rfl) rfl ?_
        refine J_iinc (i := 4) (v := l4 + (1 : Int32)) 4 31 [(4, 1, .int (l4 + (1 : Int32))), (3, 1, .int l3), (0, 1, va_rf l0), (1, 1, .int l1), (2, 1, .int l2)] dX3_placeIn_28 rfl rfl (Nat.le_of_ble_eq_true rfl) (by rw [kic_1]) rfl ?_
        refine J_goto 5 dX3_placeIn_31 (by decide) ?_
        refine J.pick [2, 3, 4, 1, 0] rfl ?_
        exact ih l3 (l4 + (1 : Int32)) σ h
      · rw [if_pos c3] at h
        refine J_iload (i := 4) 4 21 dX3_placeIn_19 rfl rfl ?_
        refine J_ic 22 dX3_placeIn_21 rfl (1 : Int32) kic_1 ?_
        refine J_iadd 23 dX3_placeIn_22 rfl ?_
        refine J_goto 27 dX3_placeIn_23 (by decide) ?_
        refine J_istore_n (i := 3) 28 [(3, 1, .int (l4 + (1 : Int32))), (0, 1, va_rf l0), (1, 1, .int l1), (2, 1, .int l2), (4, 1, .int l4)] dX3_placeIn_27 rfl rfl (Nat.le_of_ble_eq_true rfl) rfl ?_
        refine J_iinc (i := 4) (v := l4 + (1 : Int32)) 4 31 [(4, 1, .int (l4 + (1 : Int32))), (3, 1, .int (l4 + (1 : Int32))), (0, 1, va_rf l0), (1, 1, .int l1), (2, 1, .int l2)] dX3_placeIn_28 rfl rfl (Nat.le_of_ble_eq_true rfl) (by rw [kic_1]) rfl ?_
        refine J_goto 5 dX3_placeIn_31 (by decide) ?_
        refine J.pick [2, 3, 4, 1, 0] rfl ?_
        exact ih (l4 + (1 : Int32)) (l4 + (1 : Int32)) σ h
def X3_placeIn (l0 : Option Nat) (l1 : Int32) (l2 : Int32) (σ : Hp) : Option (Int32 × Hp) :=
  X3_placeIn_c5 l0 l1 l2  FUEL (0 : Int32) (0 : Int32) σ
set_option maxHeartbeats 4000000 in
theorem sX3_placeIn {γ : GP} (hγ : GOK γ) (l0 : Option Nat) (l1 : Int32) (l2 : Int32) (σ : Hp) (q : (Int32 × Hp)) (h : X3_placeIn l0 l1 l2 σ = some q) : Rn γ mX3_placeIn yX3_placeIn [va_rf l0, .int l1, .int l2] (σ, .inr (some (.int q.1)), q.2) := by
  refine J_m hγ ykX3_placeIn rfl [(1, va_rf l0), (1, .int l1), (1, .int l2)] (cats_r (cats_i (cats_i cats_nil))) (Nat.le_of_ble_eq_true rfl) ?_
  show J γ mX3_placeIn _ σ 0 [(0, 1, va_rf l0), (1, 1, .int l1), (2, 1, .int l2)] []
  unfold X3_placeIn at h
  refine J_ic 1 dX3_placeIn_0 rfl (0 : Int32) kic_0 ?_
  refine J_istore_n (i := 3) 2 [(3, 1, .int (0 : Int32)), (0, 1, va_rf l0), (1, 1, .int l1), (2, 1, .int l2)] dX3_placeIn_1 rfl rfl (Nat.le_of_ble_eq_true rfl) rfl ?_
  refine J_ic 3 dX3_placeIn_2 rfl (0 : Int32) kic_0 ?_
  refine J_istore (i := 4) 5 [(4, 1, .int (0 : Int32)), (3, 1, .int (0 : Int32)), (0, 1, va_rf l0), (1, 1, .int l1), (2, 1, .int l2)] dX3_placeIn_3 rfl (Nat.le_of_ble_eq_true rfl) rfl ?_
  refine J.pick [2, 3, 4, 1, 0] rfl ?_
  refine jX3_placeIn_c5 hγ l0 l1 l2  FUEL (0 : Int32) (0 : Int32) σ h
abbrev mX3_place : MP := (cX3_place, "MissCurves$Book", 2, (Option.some FieldType.int), 1, "place", [])
theorem ykX3_place : YK yX3_place mX3_place 1 := ⟨q520, q134, ⟨by decide, by decide⟩, by decide +kernel, Nat.le_of_ble_eq_true rfl, by decide, rfl, rfl⟩
def X3_place (l0 : Option Nat) (l1 : Int32) (σ : Hp) : Option (Int32 × Hp) :=
  (gR σ l0 [3] 0).bind fun v1 =>
  (gI σ l0 [3] 5).bind fun v2 =>
  (X3_placeIn v1 v2 l1 σ).bind fun q3 =>
  some (q3.1, q3.2)
set_option maxHeartbeats 4000000 in
theorem sX3_place {γ : GP} (hγ : GOK γ) (l0 : Option Nat) (l1 : Int32) (σ : Hp) (q : (Int32 × Hp)) (h : X3_place l0 l1 σ = some q) : Rn γ mX3_place yX3_place [va_rf l0, .int l1] (σ, .inr (some (.int q.1)), q.2) := by
  refine J_m hγ ykX3_place rfl [(1, va_rf l0), (1, .int l1)] (cats_r (cats_i cats_nil)) (Nat.le_of_ble_eq_true rfl) ?_
  show J γ mX3_place _ σ 0 [(0, 1, va_rf l0), (1, 1, .int l1)] []
  unfold X3_place at h
  refine J_aload_n (i := 0) 0 1 dX3_place_0 rfl rfl rfl ?_
  obtain ⟨v1, hv1, h⟩ := some_of_bind h
  refine J_gR 4 dX3_place_1 rfl fk_x_189 hv1 ?_
  refine J_aload_n (i := 0) 0 5 dX3_place_4 rfl rfl rfl ?_
  obtain ⟨v2, hv2, h⟩ := some_of_bind h
  refine J_gI 8 dX3_place_5 rfl fk_x_194 hv2 ?_
  refine J_iload_n (i := 1) 1 9 dX3_place_8 rfl rfl rfl ?_
  obtain ⟨q3, hq3, h⟩ := some_of_bind h
  refine J_cSi 12 dX3_place_9 rfl ykX3_placeIn (Or.inl q521) q522 (Nat.le_of_ble_eq_true rfl) cs_nil (by decide) [va_rf v1, .int v2, .int l1] rfl rfl (sX3_placeIn hγ v1 v2 l1 σ q3 hq3) ?_
  exact J_iret rfl dX3_place_12 (retI h)
abbrev mX3_placeSampled : MP := (cX3_placeSampled, "MissCurves$Book", 2, (Option.some FieldType.int), 1, "placeSampled", [])
theorem ykX3_placeSampled : YK yX3_placeSampled mX3_placeSampled 1 := ⟨q527, q134, ⟨by decide, by decide⟩, by decide +kernel, Nat.le_of_ble_eq_true rfl, by decide, rfl, rfl⟩
def X3_placeSampled (l0 : Option Nat) (l1 : Int32) (σ : Hp) : Option (Int32 × Hp) :=
  (gR σ l0 [3] 2).bind fun v1 =>
  (gI σ l0 [3] 6).bind fun v2 =>
  (X3_placeIn v1 v2 l1 σ).bind fun q3 =>
  some (q3.1, q3.2)
set_option maxHeartbeats 4000000 in
theorem sX3_placeSampled {γ : GP} (hγ : GOK γ) (l0 : Option Nat) (l1 : Int32) (σ : Hp) (q : (Int32 × Hp)) (h : X3_placeSampled l0 l1 σ = some q) : Rn γ mX3_placeSampled yX3_placeSampled [va_rf l0, .int l1] (σ, .inr (some (.int q.1)), q.2) := by
  refine J_m hγ ykX3_placeSampled rfl [(1, va_rf l0), (1, .int l1)] (cats_r (cats_i cats_nil)) (Nat.le_of_ble_eq_true rfl) ?_
  show J γ mX3_placeSampled _ σ 0 [(0, 1, va_rf l0), (1, 1, .int l1)] []
  unfold X3_placeSampled at h
  refine J_aload_n (i := 0) 0 1 dX3_placeSampled_0 rfl rfl rfl ?_
  obtain ⟨v1, hv1, h⟩ := some_of_bind h
  refine J_gR 4 dX3_placeSampled_1 rfl fk_x_191 hv1 ?_
  refine J_aload_n (i := 0) 0 5 dX3_placeSampled_4 rfl rfl rfl ?_
  obtain ⟨v2, hv2, h⟩ := some_of_bind h
  refine J_gI 8 dX3_placeSampled_5 rfl fk_x_196 hv2 ?_
  refine J_iload_n (i := 1) 1 9 dX3_placeSampled_8 rfl rfl rfl ?_
  obtain ⟨q3, hq3, h⟩ := some_of_bind h
  refine J_cSi 12 dX3_placeSampled_9 rfl ykX3_placeIn (Or.inl q521) q522 (Nat.le_of_ble_eq_true rfl) cs_nil (by decide) [va_rf v1, .int v2, .int l1] rfl rfl (sX3_placeIn hγ v1 v2 l1 σ q3 hq3) ?_
  exact J_iret rfl dX3_placeSampled_12 (retI h)
abbrev mX3_leave : MP := (cX3_leave, "MissCurves$Book", 3, (Option.none : Option FieldType), 1, "leave", [])
theorem ykX3_leave : YK yX3_leave mX3_leave 3 := ⟨q755, q134, ⟨by decide, by decide⟩, by decide +kernel, Nat.le_of_ble_eq_true rfl, by decide, rfl, rfl⟩
def X3_leave (l0 : Option Nat) (l1 : Int32) (l2 : Int32) (σ : Hp) : Option Hp :=
  (cpI 0 σ l0 l2 l0 (l2 - (1 : Int32)) (l1 - l2)).bind fun σ1 =>
  some σ1
set_option maxHeartbeats 4000000 in
theorem sX3_leave {γ : GP} (hγ : GOK γ) (l0 : Option Nat) (l1 : Int32) (l2 : Int32) (σ : Hp) (q : Hp) (h : X3_leave l0 l1 l2 σ = some q) : Rn γ mX3_leave yX3_leave [va_rf l0, .int l1, .int l2] (σ, .inr none, q) := by
  refine J_m hγ ykX3_leave rfl [(1, va_rf l0), (1, .int l1), (1, .int l2)] (cats_r (cats_i (cats_i cats_nil))) (Nat.le_of_ble_eq_true rfl) ?_
  show J γ mX3_leave _ σ 0 [(0, 1, va_rf l0), (1, 1, .int l1), (2, 1, .int l2)] []
  unfold X3_leave at h
  refine J_aload_n (i := 0) 0 1 dX3_leave_0 rfl rfl rfl ?_
  refine J_iload_n (i := 2) 2 2 dX3_leave_1 rfl rfl rfl ?_
  refine J_aload_n (i := 0) 0 3 dX3_leave_2 rfl rfl rfl ?_
  refine J_iload_n (i := 2) 2 4 dX3_leave_3 rfl rfl rfl ?_
  refine J_ic 5 dX3_leave_4 rfl (1 : Int32) kic_1 ?_
  refine J_isub 6 dX3_leave_5 rfl ?_
  refine J_iload_n (i := 1) 1 7 dX3_leave_6 rfl rfl rfl ?_
  refine J_iload_n (i := 2) 2 8 dX3_leave_7 rfl rfl rfl ?_
  refine J_isub 9 dX3_leave_8 rfl ?_
  obtain ⟨σ1, hσ1, h⟩ := some_of_bind h
  refine J_cpI 0 (by decide) (by decide) rfl rfl q752 (Nat.le_of_ble_eq_true rfl) cs_nil (by decide) 12 dX3_leave_9 rfl hσ1 ?_
  exact J_vret rfl dX3_leave_12 (retV h)
abbrev mX3_drop : MP := (cX3_drop, "MissCurves$Book", 4, (Option.none : Option FieldType), 2, "drop", [])
theorem ykX3_drop : YK yX3_drop mX3_drop 1 := ⟨q1612, q134, ⟨by decide, by decide⟩, by decide +kernel, Nat.le_of_ble_eq_true rfl, by decide, rfl, rfl⟩
def X3_drop (l0 : Option Nat) (l1 : Int32) (σ : Hp) : Option Hp :=
  (cT σ l0 3).bind fun b2 =>
  (X3_place l0 l1 σ).bind fun q1 =>
  (cT q1.2 l0 3).bind fun b4 =>
  (X3_placeSampled l0 l1 q1.2).bind fun q3 =>
  (gR q3.2 l0 [3] 0).bind fun v5 =>
  (gI q3.2 l0 [3] 5).bind fun v6 =>
  (X3_leave v5 v6 q1.1 q3.2).bind fun q7 =>
  (gI q7 l0 [3] 5).bind fun v8 =>
  (pI q7 l0 [3] 5 (v8 - (1 : Int32))).bind fun σ9 =>
  if q3.1 = 0 then
    some σ9
  else
    (gR σ9 l0 [3] 2).bind fun v11 =>
    (gI σ9 l0 [3] 6).bind fun v12 =>
    (X3_leave v11 v12 q3.1 σ9).bind fun q13 =>
    (gI q13 l0 [3] 6).bind fun v14 =>
    (pI q13 l0 [3] 6 (v14 - (1 : Int32))).bind fun σ15 =>
    some σ15
set_option maxHeartbeats 4000000 in
theorem sX3_drop {γ : GP} (hγ : GOK γ) (l0 : Option Nat) (l1 : Int32) (σ : Hp) (q : Hp) (h : X3_drop l0 l1 σ = some q) : Rn γ mX3_drop yX3_drop [va_rf l0, .int l1] (σ, .inr none, q) := by
  refine J_m hγ ykX3_drop rfl [(1, va_rf l0), (1, .int l1)] (cats_r (cats_i cats_nil)) (Nat.le_of_ble_eq_true rfl) ?_
  show J γ mX3_drop _ σ 0 [(0, 1, va_rf l0), (1, 1, .int l1)] []
  unfold X3_drop at h
  refine J_aload_n (i := 0) 0 1 dX3_drop_0 rfl rfl rfl ?_
  refine J_iload_n (i := 1) 1 2 dX3_drop_1 rfl rfl rfl ?_
  obtain ⟨b2, hb2, h⟩ := some_of_bind h
  obtain ⟨q1, hq1, h⟩ := some_of_bind h
  refine J_cVi 5 dX3_drop_2 rfl ykX3_place (Or.inl q747) q518 q519 (Nat.le_of_ble_eq_true rfl) cs_nil (by decide) [.int l1] hb2 (by decide) rfl rfl rfl (sX3_place hγ l0 l1 σ q1 hq1) ?_
  refine J_istore_n (i := 2) 6 [(2, 1, .int q1.1), (0, 1, va_rf l0), (1, 1, .int l1)] dX3_drop_5 rfl rfl (Nat.le_of_ble_eq_true rfl) rfl ?_
  refine J_aload_n (i := 0) 1 7 dX3_drop_6 rfl rfl rfl ?_
  refine J_iload_n (i := 1) 2 8 dX3_drop_7 rfl rfl rfl ?_
  obtain ⟨b4, hb4, h⟩ := some_of_bind h
  obtain ⟨q3, hq3, h⟩ := some_of_bind h
  refine J_cVi 11 dX3_drop_8 rfl ykX3_placeSampled (Or.inl q760) q525 q526 (Nat.le_of_ble_eq_true rfl) cs_nil (by decide) [.int l1] hb4 (by decide) rfl rfl rfl (sX3_placeSampled hγ l0 l1 q1.2 q3 hq3) ?_
  refine J_istore_n (i := 3) 12 [(3, 1, .int q3.1), (2, 1, .int q1.1), (0, 1, va_rf l0), (1, 1, .int l1)] dX3_drop_11 rfl rfl (Nat.le_of_ble_eq_true rfl) rfl ?_
  refine J_aload_n (i := 0) 2 13 dX3_drop_12 rfl rfl rfl ?_
  obtain ⟨v5, hv5, h⟩ := some_of_bind h
  refine J_gR 16 dX3_drop_13 rfl fk_x_189 hv5 ?_
  refine J_aload_n (i := 0) 2 17 dX3_drop_16 rfl rfl rfl ?_
  obtain ⟨v6, hv6, h⟩ := some_of_bind h
  refine J_gI 20 dX3_drop_17 rfl fk_x_194 hv6 ?_
  refine J_iload_n (i := 2) 1 21 dX3_drop_20 rfl rfl rfl ?_
  obtain ⟨q7, hq7, h⟩ := some_of_bind h
  refine J_cSv 24 dX3_drop_21 rfl ykX3_leave (Or.inl q753) q754 (Nat.le_of_ble_eq_true rfl) cs_nil (by decide) [va_rf v5, .int v6, .int q1.1] rfl rfl (sX3_leave hγ v5 v6 q1.1 q3.2 q7 hq7) ?_
  refine J_aload_n (i := 0) 2 25 dX3_drop_24 rfl rfl rfl ?_
  refine J_dupr 26 dX3_drop_25 rfl ?_
  obtain ⟨v8, hv8, h⟩ := some_of_bind h
  refine J_gI 29 dX3_drop_26 rfl fk_x_194 hv8 ?_
  refine J_ic 30 dX3_drop_29 rfl (1 : Int32) kic_1 ?_
  refine J_isub 31 dX3_drop_30 rfl ?_
  obtain ⟨σ9, hσ9, h⟩ := some_of_bind h
  refine J_pI 34 dX3_drop_31 rfl pk_x_195 hσ9 ?_
  refine J_iload_n (i := 3) 0 35 dX3_drop_34 rfl rfl rfl ?_
  refine J_if_ne 39 38 dX3_drop_35 (by decide) rfl (fun c10 => ?_) (fun c10 => ?_)
  · rw [if_neg c10] at h
    refine J_aload_n (i := 0) 2 40 dX3_drop_39 rfl rfl rfl ?_
    obtain ⟨v11, hv11, h⟩ := some_of_bind h
    refine J_gR 43 dX3_drop_40 rfl fk_x_191 hv11 ?_
    refine J_aload_n (i := 0) 2 44 dX3_drop_43 rfl rfl rfl ?_
    obtain ⟨v12, hv12, h⟩ := some_of_bind h
    refine J_gI 47 dX3_drop_44 rfl fk_x_196 hv12 ?_
    refine J_iload_n (i := 3) 0 48 dX3_drop_47 rfl rfl rfl ?_
    obtain ⟨q13, hq13, h⟩ := some_of_bind h
    refine J_cSv 51 dX3_drop_48 rfl ykX3_leave (Or.inl q753) q754 (Nat.le_of_ble_eq_true rfl) cs_nil (by decide) [va_rf v11, .int v12, .int q3.1] rfl rfl (sX3_leave hγ v11 v12 q3.1 σ9 q13 hq13) ?_
    refine J_aload_n (i := 0) 2 52 dX3_drop_51 rfl rfl rfl ?_
    refine J_dupr 53 dX3_drop_52 rfl ?_
    obtain ⟨v14, hv14, h⟩ := some_of_bind h
    refine J_gI 56 dX3_drop_53 rfl fk_x_196 hv14 ?_
    refine J_ic 57 dX3_drop_56 rfl (1 : Int32) kic_1 ?_
    refine J_isub 58 dX3_drop_57 rfl ?_
    obtain ⟨σ15, hσ15, h⟩ := some_of_bind h
    refine J_pI 61 dX3_drop_58 rfl pk_x_197 hσ15 ?_
    exact J_vret rfl dX3_drop_61 (retV h)
  · rw [if_pos c10] at h
    exact J_vret rfl dX3_drop_38 (retV h)
abbrev mX3_first : MP := (cX3_first, "MissCurves$Book", 5, (Option.none : Option FieldType), 1, "first", [])
theorem ykX3_first : YK yX3_first mX3_first 4 := ⟨q751, q134, ⟨by decide, by decide⟩, by decide +kernel, Nat.le_of_ble_eq_true rfl, by decide, rfl, rfl⟩
def X3_first_c11  (l0 : Option Nat) (l3 : Int32) (s0 : Int32) (σ : Hp) : Option Hp :=
  (cpI 0 σ l0 (0 : Int32) l0 (1 : Int32) s0).bind fun σ1 =>
  (sI 0 σ1 l0 (0 : Int32) l3).bind fun σ2 =>
  some σ2
set_option maxHeartbeats 4000000 in
theorem jX3_first_c11 {γ : GP} {σ0 : Hp} {q : Hp} (hγ : GOK γ) (l0 : Option Nat) (l3 : Int32)  (s0 : Int32) (σ : Hp) (h : X3_first_c11 l0 l3 s0 σ = some q) : J γ mX3_first (σ0, .inr none, q) σ 11 [(0, 1, va_rf l0), (3, 1, .int l3)] [.int s0] := by
  unfold X3_first_c11 at h
  refine J_istore (i := 4) 13 [(4, 1, .int s0), (0, 1, va_rf l0), (3, 1, .int l3)] dX3_first_11 rfl (Nat.le_of_ble_eq_true rfl) rfl ?_
  refine J_aload_n (i := 0) 1 14 dX3_first_13 rfl rfl rfl ?_
  refine J_ic 15 dX3_first_14 rfl (0 : Int32) kic_0 ?_
  refine J_aload_n (i := 0) 1 16 dX3_first_15 rfl rfl rfl ?_
  refine J_ic 17 dX3_first_16 rfl (1 : Int32) kic_1 ?_
  refine J_iload (i := 4) 0 19 dX3_first_17 rfl rfl ?_
  obtain ⟨σ1, hσ1, h⟩ := some_of_bind h
  refine J_cpI 0 (by decide) (by decide) rfl rfl q752 (Nat.le_of_ble_eq_true rfl) cs_nil (by decide) 22 dX3_first_19 rfl hσ1 ?_
  refine J_aload_n (i := 0) 1 23 dX3_first_22 rfl rfl rfl ?_
  refine J_ic 24 dX3_first_23 rfl (0 : Int32) kic_0 ?_
  refine J_iload_n (i := 3) 2 25 dX3_first_24 rfl rfl rfl ?_
  obtain ⟨σ2, hσ2, h⟩ := some_of_bind h
  refine J_iast 26 dX3_first_25 rfl hσ2 ?_
  exact J_vret rfl dX3_first_26 (retV h)
def X3_first (l0 : Option Nat) (l1 : Int32) (l2 : Int32) (l3 : Int32) (σ : Hp) : Option Hp :=
  if l2 = 0 then
    X3_first_c11  l0 l3 l1 σ
  else
    X3_first_c11  l0 l3 (l2 - (1 : Int32)) σ
set_option maxHeartbeats 4000000 in
theorem sX3_first {γ : GP} (hγ : GOK γ) (l0 : Option Nat) (l1 : Int32) (l2 : Int32) (l3 : Int32) (σ : Hp) (q : Hp) (h : X3_first l0 l1 l2 l3 σ = some q) : Rn γ mX3_first yX3_first [va_rf l0, .int l1, .int l2, .int l3] (σ, .inr none, q) := by
  refine J_m hγ ykX3_first rfl [(1, va_rf l0), (1, .int l1), (1, .int l2), (1, .int l3)] (cats_r (cats_i (cats_i (cats_i cats_nil)))) (Nat.le_of_ble_eq_true rfl) ?_
  show J γ mX3_first _ σ 0 [(0, 1, va_rf l0), (1, 1, .int l1), (2, 1, .int l2), (3, 1, .int l3)] []
  unfold X3_first at h
  refine J_iload_n (i := 2) 2 1 dX3_first_0 rfl rfl rfl ?_
  refine J_if_ne 8 4 dX3_first_1 (by decide) rfl (fun c1 => ?_) (fun c1 => ?_)
  · rw [if_neg c1] at h
    refine J_iload_n (i := 2) 2 9 dX3_first_8 rfl rfl rfl ?_
    refine J_ic 10 dX3_first_9 rfl (1 : Int32) kic_1 ?_
    refine J_isub 11 dX3_first_10 rfl ?_
    refine J.pick [0, 3] rfl ?_
    exact jX3_first_c11 hγ l0 l3 (l2 - (1 : Int32)) σ h
  · rw [if_pos c1] at h
    refine J_iload_n (i := 1) 1 5 dX3_first_4 rfl rfl rfl ?_
    refine J_goto 11 dX3_first_5 (by decide) ?_
    refine J.pick [0, 3] rfl ?_
    exact jX3_first_c11 hγ l0 l3 l1 σ h
abbrev mJ6_fill : MP := (cJ6_fill, "java/util/Arrays", 5, (Option.none : Option FieldType), 0, "fill", [])
theorem ykJ6_fill : YK yJ6_fill mJ6_fill 2 := ⟨q647, q142, ⟨by decide, by decide⟩, by decide +kernel, Nat.le_of_ble_eq_true rfl, by decide, rfl, rfl⟩
def J6_fill_c6 (l0 : Option Nat) (l1 : Int64) (l4 : Int32)  : Nat → Int32 → Hp → Option Hp
  | 0, _, _ => none
  | n + 1, l3, σ =>
    if l4 ≤ l3 then
      some σ
    else
      (sL σ l0 l3 l1).bind fun σ2 =>
      J6_fill_c6 l0 l1 l4 n (l3 + (1 : Int32)) σ2
set_option maxHeartbeats 4000000 in
theorem jJ6_fill_c6 {γ : GP} {σ0 : Hp} {q : Hp} (hγ : GOK γ) (l0 : Option Nat) (l1 : Int64) (l4 : Int32)  : ∀ (n : Nat) (l3 : Int32) (σ : Hp), J6_fill_c6 l0 l1 l4 n l3 σ = some q → J γ mJ6_fill (σ0, .inr none, q) σ 6 [(0, 1, va_rf l0), (1, 2, .long l1), (3, 1, .int l3), (4, 1, .int l4)] [] := by
  intro n
  induction n with
  | zero => intro l3 σ h; exact nomatch (show none = some q from h)
  | succ n ih =>
    intro l3 σ h
    rw [J6_fill_c6] at h
    refine J_iload_n (i := 3) 2 7 dJ6_fill_6 rfl rfl rfl ?_
    refine J_iload (i := 4) 3 9 dJ6_fill_7 rfl rfl ?_
    refine J_icmp_ge 22 12 dJ6_fill_9 (by decide) rfl (fun c1 => ?_) (fun c1 => ?_)
    · rw [if_pos c1] at h
      exact J_vret rfl dJ6_fill_22 (retV h)
    · rw [if_neg c1] at h
      refine J_aload_n (i := 0) 0 13 dJ6_fill_12 rfl rfl rfl ?_
      refine J_iload_n (i := 3) 2 14 dJ6_fill_13 rfl rfl rfl ?_
      refine J_lload_n (i := 1) 1 15 dJ6_fill_14 rfl rfl rfl ?_
      obtain ⟨σ2, hσ2, h⟩ := some_of_bind h
      refine J_last 16 dJ6_fill_15 rfl hσ2 ?_
      refine J_iinc (i := 3) (v := l3 + (1 : Int32)) 2 19 [(3, 1, .int (l3 + (1 : Int32))), (0, 1, va_rf l0), (1, 2, .long l1), (4, 1, .int l4)] dJ6_fill_16 rfl rfl (Nat.le_of_ble_eq_true rfl) (by rw [kic_1]) rfl ?_
      refine J_goto 6 dJ6_fill_19 (by decide) ?_
      refine J.pick [1, 2, 0, 3] rfl ?_
      exact ih (l3 + (1 : Int32)) σ2 h
def J6_fill (l0 : Option Nat) (l1 : Int64) (σ : Hp) : Option Hp :=
  (aN σ l0).bind fun v1 =>
  J6_fill_c6 l0 l1 v1  FUEL (0 : Int32) σ
set_option maxHeartbeats 4000000 in
theorem sJ6_fill {γ : GP} (hγ : GOK γ) (l0 : Option Nat) (l1 : Int64) (σ : Hp) (q : Hp) (h : J6_fill l0 l1 σ = some q) : Rn γ mJ6_fill yJ6_fill [va_rf l0, .long l1] (σ, .inr none, q) := by
  refine J_m hγ ykJ6_fill rfl [(1, va_rf l0), (2, .long l1)] (cats_r (cats_l cats_nil)) (Nat.le_of_ble_eq_true rfl) ?_
  show J γ mJ6_fill _ σ 0 [(0, 1, va_rf l0), (1, 2, .long l1)] []
  unfold J6_fill at h
  refine J_ic 1 dJ6_fill_0 rfl (0 : Int32) kic_0 ?_
  refine J_istore_n (i := 3) 2 [(3, 1, .int (0 : Int32)), (0, 1, va_rf l0), (1, 2, .long l1)] dJ6_fill_1 rfl rfl (Nat.le_of_ble_eq_true rfl) rfl ?_
  refine J_aload_n (i := 0) 1 3 dJ6_fill_2 rfl rfl rfl ?_
  obtain ⟨v1, hv1, h⟩ := some_of_bind h
  refine J_alen 4 dJ6_fill_3 rfl hv1 ?_
  refine J_istore (i := 4) 6 [(4, 1, .int v1), (3, 1, .int (0 : Int32)), (0, 1, va_rf l0), (1, 2, .long l1)] dJ6_fill_4 rfl (Nat.le_of_ble_eq_true rfl) rfl ?_
  refine J.pick [2, 3, 1, 0] rfl ?_
  refine jJ6_fill_c6 hγ l0 l1 v1  FUEL (0 : Int32) σ h
abbrev mX3_forgetSample : MP := (cX3_forgetSample, "MissCurves$Book", 1, (Option.none : Option FieldType), 1, "forgetSample", [])
theorem ykX3_forgetSample : YK yX3_forgetSample mX3_forgetSample 0 := ⟨q644, q134, ⟨by decide, by decide⟩, by decide +kernel, Nat.le_of_ble_eq_true rfl, by decide, rfl, rfl⟩
def X3_forgetSample (l0 : Option Nat) (σ : Hp) : Option Hp :=
  (pI σ l0 [3] 6 (0 : Int32)).bind fun σ1 =>
  (pI σ1 l0 [3] 8 (1000 : Int32)).bind fun σ2 =>
  (gR σ2 l0 [3] 4).bind fun v3 =>
  (J6_fill v3 (0 : Int64) σ2).bind fun q4 =>
  some q4
set_option maxHeartbeats 4000000 in
theorem sX3_forgetSample {γ : GP} (hγ : GOK γ) (l0 : Option Nat) (σ : Hp) (q : Hp) (h : X3_forgetSample l0 σ = some q) : Rn γ mX3_forgetSample yX3_forgetSample [va_rf l0] (σ, .inr none, q) := by
  refine J_m hγ ykX3_forgetSample rfl [(1, va_rf l0)] (cats_r cats_nil) (Nat.le_of_ble_eq_true rfl) ?_
  show J γ mX3_forgetSample _ σ 0 [(0, 1, va_rf l0)] []
  unfold X3_forgetSample at h
  refine J_aload_n (i := 0) 0 1 dX3_forgetSample_0 rfl rfl rfl ?_
  refine J_ic 2 dX3_forgetSample_1 rfl (0 : Int32) kic_0 ?_
  obtain ⟨σ1, hσ1, h⟩ := some_of_bind h
  refine J_pI 5 dX3_forgetSample_2 rfl pk_x_197 hσ1 ?_
  refine J_aload_n (i := 0) 0 6 dX3_forgetSample_5 rfl rfl rfl ?_
  refine J_sipush 9 dX3_forgetSample_6 rfl (1000 : Int32) ksp_1000 ?_
  obtain ⟨σ2, hσ2, h⟩ := some_of_bind h
  refine J_pI 12 dX3_forgetSample_9 rfl pk_x_201 hσ2 ?_
  refine J_aload_n (i := 0) 0 13 dX3_forgetSample_12 rfl rfl rfl ?_
  obtain ⟨v3, hv3, h⟩ := some_of_bind h
  refine J_gR 16 dX3_forgetSample_13 rfl fk_x_193 hv3 ?_
  refine J_lconst 17 dX3_forgetSample_16 rfl (0 : Int64) rfl ?_
  obtain ⟨q4, hq4, h⟩ := some_of_bind h
  refine J_cSv 20 dX3_forgetSample_17 rfl ykJ6_fill (Or.inl q645) q646 (Nat.le_of_ble_eq_true rfl) cs_nil (by decide) [va_rf v3, .long (0 : Int64)] rfl rfl (sJ6_fill hγ v3 (0 : Int64) σ2 q4 hq4) ?_
  exact J_vret rfl dX3_forgetSample_20 (retV h)
abbrev mX3_halve : MP := (cX3_halve, "MissCurves$Book", 3, (Option.some FieldType.int), 0, "halve", [])
theorem ykX3_halve : YK yX3_halve mX3_halve 0 := ⟨q1628, q134, ⟨by decide, by decide⟩, by decide +kernel, Nat.le_of_ble_eq_true rfl, by decide, rfl, rfl⟩
def X3_halve_c37 (l0 : Option Nat) (l1 : Int32)  : Nat → Int32 → Hp → Option (Int32 × Hp)
  | 0, _, _ => none
  | n + 1, l2, σ =>
    (gR σ l0 [3] 4).bind fun v1 =>
    (aN σ v1).bind fun v2 =>
    if v2 ≤ l2 then
      some (l1, σ)
    else
      (gR σ l0 [3] 4).bind fun v4 =>
      (aL σ v4 l2).bind fun v5 =>
      (sL σ v4 l2 (v5 / (2 : Int64))).bind fun σ6 =>
      X3_halve_c37 l0 l1 n (l2 + (1 : Int32)) σ6
set_option maxHeartbeats 4000000 in
theorem jX3_halve_c37 {γ : GP} {σ0 : Hp} {q : (Int32 × Hp)} (hγ : GOK γ) (l0 : Option Nat) (l1 : Int32)  : ∀ (n : Nat) (l2 : Int32) (σ : Hp), X3_halve_c37 l0 l1 n l2 σ = some q → J γ mX3_halve (σ0, .inr (some (.int q.1)), q.2) σ 37 [(0, 1, va_rf l0), (1, 1, .int l1), (2, 1, .int l2)] [] := by
  intro n
  induction n with
  | zero => intro l2 σ h; exact nomatch (show none = some q from h)
  | succ n ih =>
    intro l2 σ h
    rw [X3_halve_c37] at h
    refine J_iload_n (i := 2) 2 38 dX3_halve_37 rfl rfl rfl ?_
    refine J_aload_n (i := 0) 0 39 dX3_halve_38 rfl rfl rfl ?_
    obtain ⟨v1, hv1, h⟩ := some_of_bind h
    refine J_gR 42 dX3_halve_39 rfl fk_x_193 hv1 ?_
    obtain ⟨v2, hv2, h⟩ := some_of_bind h
    refine J_alen 43 dX3_halve_42 rfl hv2 ?_
    refine J_icmp_ge 64 46 dX3_halve_43 (by decide) rfl (fun c3 => ?_) (fun c3 => ?_)
    · rw [if_pos c3] at h
      refine J_iload_n (i := 1) 1 65 dX3_halve_64 rfl rfl rfl ?_
      exact J_iret rfl dX3_halve_65 (retI h)
    · rw [if_neg c3] at h
      refine J_aload_n (i := 0) 0 47 dX3_halve_46 rfl rfl rfl ?_
      obtain ⟨v4, hv4, h⟩ := some_of_bind h
      refine J_gR 50 dX3_halve_47 rfl fk_x_193 hv4 ?_
      refine J_iload_n (i := 2) 2 51 dX3_halve_50 rfl rfl rfl ?_
      refine J_dup2ir 52 dX3_halve_51 rfl ?_
      obtain ⟨v5, hv5, h⟩ := some_of_bind h
      refine J_lald 53 dX3_halve_52 rfl hv5 ?_
      refine J_ldc2 (v := (2 : Int64)) 56 dX3_halve_53 rfl q1629 ?_
      refine J_ldiv 57 dX3_halve_56 rfl (by decide) ?_
      obtain ⟨σ6, hσ6, h⟩ := some_of_bind h
      refine J_last 58 dX3_halve_57 rfl hσ6 ?_
      refine J_iinc (i := 2) (v := l2 + (1 : Int32)) 2 61 [(2, 1, .int (l2 + (1 : Int32))), (0, 1, va_rf l0), (1, 1, .int l1)] dX3_halve_58 rfl rfl (Nat.le_of_ble_eq_true rfl) (by rw [kic_1]) rfl ?_
      refine J_goto 37 dX3_halve_61 (by decide) ?_
      refine J.pick [1, 2, 0] rfl ?_
      exact ih (l2 + (1 : Int32)) σ6 h
def X3_halve_c4 (l0 : Option Nat) (k35 : Int32 → Hp → Option (Int32 × Hp)) : Nat → Int32 → Int32 → Hp → Option (Int32 × Hp)
  | 0, _, _, _ => none
  | n + 1, l1, l2, σ =>
    if (24 : Int32) < l2 then
      k35 l1 σ
    else
      (gR σ l0 [3] 1).bind fun v2 =>
      (aI 0 σ v2 l2).bind fun v3 =>
      (sI 0 σ v2 l2 (v3 / (2 : Int32))).bind fun σ4 =>
      (gR σ4 l0 [3] 1).bind fun v5 =>
      (aI 0 σ4 v5 l2).bind fun v6 =>
      X3_halve_c4 l0 k35 n (l1 + v6) (l2 + (1 : Int32)) σ4
set_option maxHeartbeats 4000000 in
theorem jX3_halve_c4 {γ : GP} {σ0 : Hp} {q : (Int32 × Hp)} (hγ : GOK γ) (l0 : Option Nat) {k35 : Int32 → Hp → Option (Int32 × Hp)} (hk35 : ∀ (l1 : Int32) (σ : Hp), k35 l1 σ = some q → J γ mX3_halve (σ0, .inr (some (.int q.1)), q.2) σ 35 [(0, 1, va_rf l0), (1, 1, .int l1)] []) : ∀ (n : Nat) (l1 : Int32) (l2 : Int32) (σ : Hp), X3_halve_c4 l0 k35 n l1 l2 σ = some q → J γ mX3_halve (σ0, .inr (some (.int q.1)), q.2) σ 4 [(0, 1, va_rf l0), (1, 1, .int l1), (2, 1, .int l2)] [] := by
  intro n
  induction n with
  | zero => intro l1 l2 σ h; exact nomatch (show none = some q from h)
  | succ n ih =>
    intro l1 l2 σ h
    rw [X3_halve_c4] at h
    refine J_iload_n (i := 2) 2 5 dX3_halve_4 rfl rfl rfl ?_
    refine J_bipush 7 dX3_halve_5 rfl (24 : Int32) kbp_24 ?_
    refine J_icmp_gt 35 10 dX3_halve_7 (by decide) rfl (fun c1 => ?_) (fun c1 => ?_)
    · rw [if_pos c1] at h
      refine J.pick [0, 1] rfl ?_
      exact hk35 l1 σ h
    · rw [if_neg c1] at h
      refine J_aload_n (i := 0) 0 11 dX3_halve_10 rfl rfl rfl ?_
      obtain ⟨v2, hv2, h⟩ := some_of_bind h
      refine J_gR 14 dX3_halve_11 rfl fk_x_190 hv2 ?_
      refine J_iload_n (i := 2) 2 15 dX3_halve_14 rfl rfl rfl ?_
      refine J_dup2ir 16 dX3_halve_15 rfl ?_
      obtain ⟨v3, hv3, h⟩ := some_of_bind h
      refine J_iald 17 dX3_halve_16 rfl hv3 ?_
      refine J_ic 18 dX3_halve_17 rfl (2 : Int32) kic_2 ?_
      refine J_idiv 19 dX3_halve_18 rfl (by decide) ?_
      obtain ⟨σ4, hσ4, h⟩ := some_of_bind h
      refine J_iast 20 dX3_halve_19 rfl hσ4 ?_
      refine J_iload_n (i := 1) 1 21 dX3_halve_20 rfl rfl rfl ?_
      refine J_aload_n (i := 0) 0 22 dX3_halve_21 rfl rfl rfl ?_
      obtain ⟨v5, hv5, h⟩ := some_of_bind h
      refine J_gR 25 dX3_halve_22 rfl fk_x_190 hv5 ?_
      refine J_iload_n (i := 2) 2 26 dX3_halve_25 rfl rfl rfl ?_
      obtain ⟨v6, hv6, h⟩ := some_of_bind h
      refine J_iald 27 dX3_halve_26 rfl hv6 ?_
      refine J_iadd 28 dX3_halve_27 rfl ?_
      refine J_istore_n (i := 1) 29 [(1, 1, .int (l1 + v6)), (0, 1, va_rf l0), (2, 1, .int l2)] dX3_halve_28 rfl rfl (Nat.le_of_ble_eq_true rfl) rfl ?_
      refine J_iinc (i := 2) (v := l2 + (1 : Int32)) 2 32 [(2, 1, .int (l2 + (1 : Int32))), (1, 1, .int (l1 + v6)), (0, 1, va_rf l0)] dX3_halve_29 rfl rfl (Nat.le_of_ble_eq_true rfl) (by rw [kic_1]) rfl ?_
      refine J_goto 4 dX3_halve_32 (by decide) ?_
      refine J.pick [2, 1, 0] rfl ?_
      exact ih (l1 + v6) (l2 + (1 : Int32)) σ4 h
def X3_halve (l0 : Option Nat) (σ : Hp) : Option (Int32 × Hp) :=
  X3_halve_c4 l0 (fun x1 τ2 =>
    X3_halve_c37 l0 x1  FUEL (0 : Int32) τ2) FUEL (0 : Int32) (0 : Int32) σ
set_option maxHeartbeats 4000000 in
theorem sX3_halve {γ : GP} (hγ : GOK γ) (l0 : Option Nat) (σ : Hp) (q : (Int32 × Hp)) (h : X3_halve l0 σ = some q) : Rn γ mX3_halve yX3_halve [va_rf l0] (σ, .inr (some (.int q.1)), q.2) := by
  refine J_m hγ ykX3_halve rfl [(1, va_rf l0)] (cats_r cats_nil) (Nat.le_of_ble_eq_true rfl) ?_
  show J γ mX3_halve _ σ 0 [(0, 1, va_rf l0)] []
  unfold X3_halve at h
  refine J_ic 1 dX3_halve_0 rfl (0 : Int32) kic_0 ?_
  refine J_istore_n (i := 1) 2 [(1, 1, .int (0 : Int32)), (0, 1, va_rf l0)] dX3_halve_1 rfl rfl (Nat.le_of_ble_eq_true rfl) rfl ?_
  refine J_ic 3 dX3_halve_2 rfl (0 : Int32) kic_0 ?_
  refine J_istore_n (i := 2) 4 [(2, 1, .int (0 : Int32)), (1, 1, .int (0 : Int32)), (0, 1, va_rf l0)] dX3_halve_3 rfl rfl (Nat.le_of_ble_eq_true rfl) rfl ?_
  refine J.pick [2, 1, 0] rfl ?_
  refine jX3_halve_c4 hγ l0 (fun x1 τ2 h => ?_) FUEL (0 : Int32) (0 : Int32) σ h
  · refine J_ic 36 dX3_halve_35 rfl (0 : Int32) kic_0 ?_
    refine J_istore_n (i := 2) 37 [(2, 1, .int (0 : Int32)), (0, 1, va_rf l0), (1, 1, .int x1)] dX3_halve_36 rfl rfl (Nat.le_of_ble_eq_true rfl) rfl ?_
    refine J.pick [1, 2, 0] rfl ?_
    refine jX3_halve_c37 hγ l0 x1  FUEL (0 : Int32) τ2 h
abbrev mX3_misses : MP := (cX3_misses, "MissCurves$Book", 4, (Option.some FieldType.int), 0, "misses", [])
theorem ykX3_misses : YK yX3_misses mX3_misses 1 := ⟨q1646, q134, ⟨by decide, by decide⟩, by decide +kernel, Nat.le_of_ble_eq_true rfl, by decide, rfl, rfl⟩
def X3_misses_c11 (l0 : Option Nat)  : Nat → Int32 → Int32 → Hp → Option (Int32 × Hp)
  | 0, _, _, _ => none
  | n + 1, l2, l3, σ =>
    if (24 : Int32) < l3 then
      some (l2, σ)
    else
      (gR σ l0 [3] 1).bind fun v2 =>
      (aI 0 σ v2 l3).bind fun v3 =>
      X3_misses_c11 l0 n (l2 + v3) (l3 + (1 : Int32)) σ
set_option maxHeartbeats 4000000 in
theorem jX3_misses_c11 {γ : GP} {σ0 : Hp} {q : (Int32 × Hp)} (hγ : GOK γ) (l0 : Option Nat)  : ∀ (n : Nat) (l2 : Int32) (l3 : Int32) (σ : Hp), X3_misses_c11 l0 n l2 l3 σ = some q → J γ mX3_misses (σ0, .inr (some (.int q.1)), q.2) σ 11 [(0, 1, va_rf l0), (2, 1, .int l2), (3, 1, .int l3)] [] := by
  intro n
  induction n with
  | zero => intro l2 l3 σ h; exact nomatch (show none = some q from h)
  | succ n ih =>
    intro l2 l3 σ h
    rw [X3_misses_c11] at h
    refine J_iload_n (i := 3) 2 12 dX3_misses_11 rfl rfl rfl ?_
    refine J_bipush 14 dX3_misses_12 rfl (24 : Int32) kbp_24 ?_
    refine J_icmp_gt 32 17 dX3_misses_14 (by decide) rfl (fun c1 => ?_) (fun c1 => ?_)
    · rw [if_pos c1] at h
      refine J_iload_n (i := 2) 1 33 dX3_misses_32 rfl rfl rfl ?_
      exact J_iret rfl dX3_misses_33 (retI h)
    · rw [if_neg c1] at h
      refine J_iload_n (i := 2) 1 18 dX3_misses_17 rfl rfl rfl ?_
      refine J_aload_n (i := 0) 0 19 dX3_misses_18 rfl rfl rfl ?_
      obtain ⟨v2, hv2, h⟩ := some_of_bind h
      refine J_gR 22 dX3_misses_19 rfl fk_x_190 hv2 ?_
      refine J_iload_n (i := 3) 2 23 dX3_misses_22 rfl rfl rfl ?_
      obtain ⟨v3, hv3, h⟩ := some_of_bind h
      refine J_iald 24 dX3_misses_23 rfl hv3 ?_
      refine J_iadd 25 dX3_misses_24 rfl ?_
      refine J_istore_n (i := 2) 26 [(2, 1, .int (l2 + v3)), (0, 1, va_rf l0), (3, 1, .int l3)] dX3_misses_25 rfl rfl (Nat.le_of_ble_eq_true rfl) rfl ?_
      refine J_iinc (i := 3) (v := l3 + (1 : Int32)) 2 29 [(3, 1, .int (l3 + (1 : Int32))), (2, 1, .int (l2 + v3)), (0, 1, va_rf l0)] dX3_misses_26 rfl rfl (Nat.le_of_ble_eq_true rfl) (by rw [kic_1]) rfl ?_
      refine J_goto 11 dX3_misses_29 (by decide) ?_
      refine J.pick [2, 1, 0] rfl ?_
      exact ih (l2 + v3) (l3 + (1 : Int32)) σ h
def X3_misses (l0 : Option Nat) (l1 : Int32) (σ : Hp) : Option (Int32 × Hp) :=
  (gR σ l0 [3] 1).bind fun v1 =>
  (aI 0 σ v1 (0 : Int32)).bind fun v2 =>
  X3_misses_c11 l0  FUEL v2 (l1 + (1 : Int32)) σ
set_option maxHeartbeats 4000000 in
theorem sX3_misses {γ : GP} (hγ : GOK γ) (l0 : Option Nat) (l1 : Int32) (σ : Hp) (q : (Int32 × Hp)) (h : X3_misses l0 l1 σ = some q) : Rn γ mX3_misses yX3_misses [va_rf l0, .int l1] (σ, .inr (some (.int q.1)), q.2) := by
  refine J_m hγ ykX3_misses rfl [(1, va_rf l0), (1, .int l1)] (cats_r (cats_i cats_nil)) (Nat.le_of_ble_eq_true rfl) ?_
  show J γ mX3_misses _ σ 0 [(0, 1, va_rf l0), (1, 1, .int l1)] []
  unfold X3_misses at h
  refine J_aload_n (i := 0) 0 1 dX3_misses_0 rfl rfl rfl ?_
  obtain ⟨v1, hv1, h⟩ := some_of_bind h
  refine J_gR 4 dX3_misses_1 rfl fk_x_190 hv1 ?_
  refine J_ic 5 dX3_misses_4 rfl (0 : Int32) kic_0 ?_
  obtain ⟨v2, hv2, h⟩ := some_of_bind h
  refine J_iald 6 dX3_misses_5 rfl hv2 ?_
  refine J_istore_n (i := 2) 7 [(2, 1, .int v2), (0, 1, va_rf l0), (1, 1, .int l1)] dX3_misses_6 rfl rfl (Nat.le_of_ble_eq_true rfl) rfl ?_
  refine J_iload_n (i := 1) 2 8 dX3_misses_7 rfl rfl rfl ?_
  refine J_ic 9 dX3_misses_8 rfl (1 : Int32) kic_1 ?_
  refine J_iadd 10 dX3_misses_9 rfl ?_
  refine J_istore_n (i := 3) 11 [(3, 1, .int (l1 + (1 : Int32))), (2, 1, .int v2), (0, 1, va_rf l0), (1, 1, .int l1)] dX3_misses_10 rfl rfl (Nat.le_of_ble_eq_true rfl) rfl ?_
  refine J.pick [2, 1, 0] rfl ?_
  refine jX3_misses_c11 hγ l0  FUEL v2 (l1 + (1 : Int32)) σ h
abbrev mX3_often : MP := (cX3_often, "MissCurves$Book", 4, (Option.some FieldType.int), 0, "often", [])
theorem ykX3_often : YK yX3_often mX3_often 1 := ⟨q542, q134, ⟨by decide, by decide⟩, by decide +kernel, Nat.le_of_ble_eq_true rfl, by decide, rfl, rfl⟩
def X3_often_c4 (l0 : Option Nat) (l1 : Int32)  : Nat → Int32 → Int32 → Hp → Option (Int32 × Hp)
  | 0, _, _, _ => none
  | n + 1, l2, l3, σ =>
    (gI σ l0 [3] 7).bind fun v1 =>
    if v1 ≤ l3 then
      some (l2, σ)
    else
      (gR σ l0 [3] 3).bind fun v3 =>
      (aI 0 σ v3 l3).bind fun v4 =>
      if v4 = l1 then
        X3_often_c4 l0 l1 n (l2 + (1 : Int32)) (l3 + (1 : Int32)) σ
      else
        X3_often_c4 l0 l1 n (l2 + (0 : Int32)) (l3 + (1 : Int32)) σ
set_option maxHeartbeats 4000000 in
theorem jX3_often_c4 {γ : GP} {σ0 : Hp} {q : (Int32 × Hp)} (hγ : GOK γ) (l0 : Option Nat) (l1 : Int32)  : ∀ (n : Nat) (l2 : Int32) (l3 : Int32) (σ : Hp), X3_often_c4 l0 l1 n l2 l3 σ = some q → J γ mX3_often (σ0, .inr (some (.int q.1)), q.2) σ 4 [(0, 1, va_rf l0), (1, 1, .int l1), (2, 1, .int l2), (3, 1, .int l3)] [] := by
  intro n
  induction n with
  | zero => intro l2 l3 σ h; exact nomatch (show none = some q from h)
  | succ n ih =>
    intro l2 l3 σ h
    rw [X3_often_c4] at h
    refine J_iload_n (i := 3) 3 5 dX3_often_4 rfl rfl rfl ?_
    refine J_aload_n (i := 0) 0 6 dX3_often_5 rfl rfl rfl ?_
    obtain ⟨v1, hv1, h⟩ := some_of_bind h
    refine J_gI 9 dX3_often_6 rfl fk_x_198 hv1 ?_
    refine J_icmp_ge 36 12 dX3_often_9 (by decide) rfl (fun c2 => ?_) (fun c2 => ?_)
    · rw [if_pos c2] at h
      refine J_iload_n (i := 2) 2 37 dX3_often_36 rfl rfl rfl ?_
      exact J_iret rfl dX3_often_37 (retI h)
    · rw [if_neg c2] at h
      refine J_iload_n (i := 2) 2 13 dX3_often_12 rfl rfl rfl ?_
      refine J_aload_n (i := 0) 0 14 dX3_often_13 rfl rfl rfl ?_
      obtain ⟨v3, hv3, h⟩ := some_of_bind h
      refine J_gR 17 dX3_often_14 rfl fk_x_192 hv3 ?_
      refine J_iload_n (i := 3) 3 18 dX3_often_17 rfl rfl rfl ?_
      obtain ⟨v4, hv4, h⟩ := some_of_bind h
      refine J_iald 19 dX3_often_18 rfl hv4 ?_
      refine J_iload_n (i := 1) 1 20 dX3_often_19 rfl rfl rfl ?_
      refine J_icmp_ne 27 23 dX3_often_20 (by decide) rfl (fun c5 => ?_) (fun c5 => ?_)
      · rw [if_neg c5] at h
        refine J_ic 28 dX3_often_27 rfl (0 : Int32) kic_0 ?_
        refine J_iadd 29 dX3_often_28 rfl ?_
        refine J_istore_n (i := 2) 30 [(2, 1, .int (l2 + (0 : Int32))), (0, 1, va_rf l0), (1, 1, .int l1), (3, 1, .int l3)] dX3_often_29 rfl rfl (Nat.le_of_ble_eq_true rfl) rfl ?_
        refine J_iinc (i := 3) (v := l3 + (1 : Int32)) 3 33 [(3, 1, .int (l3 + (1 : Int32))), (2, 1, .int (l2 + (0 : Int32))), (0, 1, va_rf l0), (1, 1, .int l1)] dX3_often_30 rfl rfl (Nat.le_of_ble_eq_true rfl) (by rw [kic_1]) rfl ?_
        refine J_goto 4 dX3_often_33 (by decide) ?_
        refine J.pick [2, 3, 1, 0] rfl ?_
        exact ih (l2 + (0 : Int32)) (l3 + (1 : Int32)) σ h
      · rw [if_pos c5] at h
        refine J_ic 24 dX3_often_23 rfl (1 : Int32) kic_1 ?_
        refine J_goto 28 dX3_often_24 (by decide) ?_
        refine J_iadd 29 dX3_often_28 rfl ?_
        refine J_istore_n (i := 2) 30 [(2, 1, .int (l2 + (1 : Int32))), (0, 1, va_rf l0), (1, 1, .int l1), (3, 1, .int l3)] dX3_often_29 rfl rfl (Nat.le_of_ble_eq_true rfl) rfl ?_
        refine J_iinc (i := 3) (v := l3 + (1 : Int32)) 3 33 [(3, 1, .int (l3 + (1 : Int32))), (2, 1, .int (l2 + (1 : Int32))), (0, 1, va_rf l0), (1, 1, .int l1)] dX3_often_30 rfl rfl (Nat.le_of_ble_eq_true rfl) (by rw [kic_1]) rfl ?_
        refine J_goto 4 dX3_often_33 (by decide) ?_
        refine J.pick [2, 3, 1, 0] rfl ?_
        exact ih (l2 + (1 : Int32)) (l3 + (1 : Int32)) σ h
def X3_often (l0 : Option Nat) (l1 : Int32) (σ : Hp) : Option (Int32 × Hp) :=
  X3_often_c4 l0 l1  FUEL (0 : Int32) (0 : Int32) σ
set_option maxHeartbeats 4000000 in
theorem sX3_often {γ : GP} (hγ : GOK γ) (l0 : Option Nat) (l1 : Int32) (σ : Hp) (q : (Int32 × Hp)) (h : X3_often l0 l1 σ = some q) : Rn γ mX3_often yX3_often [va_rf l0, .int l1] (σ, .inr (some (.int q.1)), q.2) := by
  refine J_m hγ ykX3_often rfl [(1, va_rf l0), (1, .int l1)] (cats_r (cats_i cats_nil)) (Nat.le_of_ble_eq_true rfl) ?_
  show J γ mX3_often _ σ 0 [(0, 1, va_rf l0), (1, 1, .int l1)] []
  unfold X3_often at h
  refine J_ic 1 dX3_often_0 rfl (0 : Int32) kic_0 ?_
  refine J_istore_n (i := 2) 2 [(2, 1, .int (0 : Int32)), (0, 1, va_rf l0), (1, 1, .int l1)] dX3_often_1 rfl rfl (Nat.le_of_ble_eq_true rfl) rfl ?_
  refine J_ic 3 dX3_often_2 rfl (0 : Int32) kic_0 ?_
  refine J_istore_n (i := 3) 4 [(3, 1, .int (0 : Int32)), (2, 1, .int (0 : Int32)), (0, 1, va_rf l0), (1, 1, .int l1)] dX3_often_3 rfl rfl (Nat.le_of_ble_eq_true rfl) rfl ?_
  refine J.pick [2, 3, 1, 0] rfl ?_
  refine jX3_often_c4 hγ l0 l1  FUEL (0 : Int32) (0 : Int32) σ h
abbrev mX3_push : MP := (cX3_push, "MissCurves$Book", 3, (Option.none : Option FieldType), 2, "push", [])
theorem ykX3_push : YK yX3_push mX3_push 1 := ⟨q746, q134, ⟨by decide, by decide⟩, by decide +kernel, Nat.le_of_ble_eq_true rfl, by decide, rfl, rfl⟩
def X3_push_c78  (l0 : Option Nat) (l1 : Int32)  (σ : Hp) : Option Hp :=
  (gR σ l0 [3] 3).bind fun v1 =>
  (gI σ l0 [3] 7).bind fun v2 =>
  (pI σ l0 [3] 7 (v2 + (1 : Int32))).bind fun σ3 =>
  (sI 0 σ3 v1 v2 l1).bind fun σ4 =>
  some σ4
set_option maxHeartbeats 4000000 in
theorem jX3_push_c78 {γ : GP} {σ0 : Hp} {q : Hp} (hγ : GOK γ) (l0 : Option Nat) (l1 : Int32)   (σ : Hp) (h : X3_push_c78 l0 l1 σ = some q) : J γ mX3_push (σ0, .inr none, q) σ 78 [(0, 1, va_rf l0), (1, 1, .int l1)] [] := by
  unfold X3_push_c78 at h
  refine J_aload_n (i := 0) 0 79 dX3_push_78 rfl rfl rfl ?_
  obtain ⟨v1, hv1, h⟩ := some_of_bind h
  refine J_gR 82 dX3_push_79 rfl fk_x_192 hv1 ?_
  refine J_aload_n (i := 0) 0 83 dX3_push_82 rfl rfl rfl ?_
  refine J_dupr 84 dX3_push_83 rfl ?_
  obtain ⟨v2, hv2, h⟩ := some_of_bind h
  refine J_gI 87 dX3_push_84 rfl fk_x_198 hv2 ?_
  refine J_dup_x1ir 88 dX3_push_87 rfl ?_
  refine J_ic 89 dX3_push_88 rfl (1 : Int32) kic_1 ?_
  refine J_iadd 90 dX3_push_89 rfl ?_
  obtain ⟨σ3, hσ3, h⟩ := some_of_bind h
  refine J_pI 93 dX3_push_90 rfl pk_x_199 hσ3 ?_
  refine J_iload_n (i := 1) 1 94 dX3_push_93 rfl rfl rfl ?_
  obtain ⟨σ4, hσ4, h⟩ := some_of_bind h
  refine J_iast 95 dX3_push_94 rfl hσ4 ?_
  exact J_vret rfl dX3_push_95 (retV h)
def X3_push_c47  (l0 : Option Nat) (l1 : Int32)  (σ : Hp) : Option Hp :=
  (gI σ l0 [3] 7).bind fun v1 =>
  if v1 = (32 : Int32) then
    (gR σ l0 [3] 3).bind fun v3 =>
    (gI σ l0 [3] 7).bind fun v4 =>
    (X3_leave v3 v4 (1 : Int32) σ).bind fun q5 =>
    (gI q5 l0 [3] 7).bind fun v6 =>
    (pI q5 l0 [3] 7 (v6 - (1 : Int32))).bind fun σ7 =>
    X3_push_c78  l0 l1  σ7
  else
    X3_push_c78  l0 l1  σ
set_option maxHeartbeats 4000000 in
theorem jX3_push_c47 {γ : GP} {σ0 : Hp} {q : Hp} (hγ : GOK γ) (l0 : Option Nat) (l1 : Int32)   (σ : Hp) (h : X3_push_c47 l0 l1 σ = some q) : J γ mX3_push (σ0, .inr none, q) σ 47 [(0, 1, va_rf l0), (1, 1, .int l1)] [] := by
  unfold X3_push_c47 at h
  refine J_aload_n (i := 0) 0 48 dX3_push_47 rfl rfl rfl ?_
  obtain ⟨v1, hv1, h⟩ := some_of_bind h
  refine J_gI 51 dX3_push_48 rfl fk_x_198 hv1 ?_
  refine J_bipush 53 dX3_push_51 rfl (32 : Int32) kbp_32 ?_
  refine J_icmp_ne 78 56 dX3_push_53 (by decide) rfl (fun c2 => ?_) (fun c2 => ?_)
  · rw [if_neg c2] at h
    exact jX3_push_c78 hγ l0 l1  σ h
  · rw [if_pos c2] at h
    refine J_aload_n (i := 0) 0 57 dX3_push_56 rfl rfl rfl ?_
    obtain ⟨v3, hv3, h⟩ := some_of_bind h
    refine J_gR 60 dX3_push_57 rfl fk_x_192 hv3 ?_
    refine J_aload_n (i := 0) 0 61 dX3_push_60 rfl rfl rfl ?_
    obtain ⟨v4, hv4, h⟩ := some_of_bind h
    refine J_gI 64 dX3_push_61 rfl fk_x_198 hv4 ?_
    refine J_ic 65 dX3_push_64 rfl (1 : Int32) kic_1 ?_
    obtain ⟨q5, hq5, h⟩ := some_of_bind h
    refine J_cSv 68 dX3_push_65 rfl ykX3_leave (Or.inl q753) q754 (Nat.le_of_ble_eq_true rfl) cs_nil (by decide) [va_rf v3, .int v4, .int (1 : Int32)] rfl rfl (sX3_leave hγ v3 v4 (1 : Int32) σ q5 hq5) ?_
    refine J_aload_n (i := 0) 0 69 dX3_push_68 rfl rfl rfl ?_
    refine J_dupr 70 dX3_push_69 rfl ?_
    obtain ⟨v6, hv6, h⟩ := some_of_bind h
    refine J_gI 73 dX3_push_70 rfl fk_x_198 hv6 ?_
    refine J_ic 74 dX3_push_73 rfl (1 : Int32) kic_1 ?_
    refine J_isub 75 dX3_push_74 rfl ?_
    obtain ⟨σ7, hσ7, h⟩ := some_of_bind h
    refine J_pI 78 dX3_push_75 rfl pk_x_199 hσ7 ?_
    exact jX3_push_c78 hγ l0 l1  σ7 h
def X3_push (l0 : Option Nat) (l1 : Int32) (σ : Hp) : Option Hp :=
  (cT σ l0 3).bind fun b2 =>
  (X3_place l0 l1 σ).bind fun q1 =>
  (gR q1.2 l0 [3] 0).bind fun v3 =>
  (gI q1.2 l0 [3] 5).bind fun v4 =>
  (X3_first v3 (imin v4 (24 : Int32)) q1.1 l1 q1.2).bind fun q5 =>
  if q1.1 = 0 then
    (gI q5 l0 [3] 5).bind fun v7 =>
    if (24 : Int32) ≤ v7 then
      X3_push_c47  l0 l1  q5
    else
      (gI q5 l0 [3] 5).bind fun v9 =>
      (pI q5 l0 [3] 5 (v9 + (1 : Int32))).bind fun σ10 =>
      X3_push_c47  l0 l1  σ10
  else
    X3_push_c47  l0 l1  q5
set_option maxHeartbeats 4000000 in
theorem sX3_push {γ : GP} (hγ : GOK γ) (l0 : Option Nat) (l1 : Int32) (σ : Hp) (q : Hp) (h : X3_push l0 l1 σ = some q) : Rn γ mX3_push yX3_push [va_rf l0, .int l1] (σ, .inr none, q) := by
  refine J_m hγ ykX3_push rfl [(1, va_rf l0), (1, .int l1)] (cats_r (cats_i cats_nil)) (Nat.le_of_ble_eq_true rfl) ?_
  show J γ mX3_push _ σ 0 [(0, 1, va_rf l0), (1, 1, .int l1)] []
  unfold X3_push at h
  refine J_aload_n (i := 0) 0 1 dX3_push_0 rfl rfl rfl ?_
  refine J_iload_n (i := 1) 1 2 dX3_push_1 rfl rfl rfl ?_
  obtain ⟨b2, hb2, h⟩ := some_of_bind h
  obtain ⟨q1, hq1, h⟩ := some_of_bind h
  refine J_cVi 5 dX3_push_2 rfl ykX3_place (Or.inl q747) q518 q519 (Nat.le_of_ble_eq_true rfl) cs_nil (by decide) [.int l1] hb2 (by decide) rfl rfl rfl (sX3_place hγ l0 l1 σ q1 hq1) ?_
  refine J_istore_n (i := 2) 6 [(2, 1, .int q1.1), (0, 1, va_rf l0), (1, 1, .int l1)] dX3_push_5 rfl rfl (Nat.le_of_ble_eq_true rfl) rfl ?_
  refine J_aload_n (i := 0) 1 7 dX3_push_6 rfl rfl rfl ?_
  obtain ⟨v3, hv3, h⟩ := some_of_bind h
  refine J_gR 10 dX3_push_7 rfl fk_x_189 hv3 ?_
  refine J_aload_n (i := 0) 1 11 dX3_push_10 rfl rfl rfl ?_
  obtain ⟨v4, hv4, h⟩ := some_of_bind h
  refine J_gI 14 dX3_push_11 rfl fk_x_194 hv4 ?_
  refine J_bipush 16 dX3_push_14 rfl (24 : Int32) kbp_24 ?_
  refine J_mminI q748 (Nat.le_of_ble_eq_true rfl) (cs_rf cs_nil) (by decide) 19 dX3_push_16 rfl ?_
  refine J_iload_n (i := 2) 0 20 dX3_push_19 rfl rfl rfl ?_
  refine J_iload_n (i := 1) 2 21 dX3_push_20 rfl rfl rfl ?_
  obtain ⟨q5, hq5, h⟩ := some_of_bind h
  refine J_cSv 24 dX3_push_21 rfl ykX3_first (Or.inl q749) q750 (Nat.le_of_ble_eq_true rfl) cs_nil (by decide) [va_rf v3, .int (imin v4 (24 : Int32)), .int q1.1, .int l1] rfl rfl (sX3_first hγ v3 (imin v4 (24 : Int32)) q1.1 l1 q1.2 q5 hq5) ?_
  refine J_iload_n (i := 2) 0 25 dX3_push_24 rfl rfl rfl ?_
  refine J_if_ne 47 28 dX3_push_25 (by decide) rfl (fun c6 => ?_) (fun c6 => ?_)
  · rw [if_neg c6] at h
    refine J.pick [1, 2] rfl ?_
    exact jX3_push_c47 hγ l0 l1  q5 h
  · rw [if_pos c6] at h
    refine J_aload_n (i := 0) 1 29 dX3_push_28 rfl rfl rfl ?_
    obtain ⟨v7, hv7, h⟩ := some_of_bind h
    refine J_gI 32 dX3_push_29 rfl fk_x_194 hv7 ?_
    refine J_bipush 34 dX3_push_32 rfl (24 : Int32) kbp_24 ?_
    refine J_icmp_ge 47 37 dX3_push_34 (by decide) rfl (fun c8 => ?_) (fun c8 => ?_)
    · rw [if_pos c8] at h
      refine J.pick [1, 2] rfl ?_
      exact jX3_push_c47 hγ l0 l1  q5 h
    · rw [if_neg c8] at h
      refine J_aload_n (i := 0) 1 38 dX3_push_37 rfl rfl rfl ?_
      refine J_dupr 39 dX3_push_38 rfl ?_
      obtain ⟨v9, hv9, h⟩ := some_of_bind h
      refine J_gI 42 dX3_push_39 rfl fk_x_194 hv9 ?_
      refine J_ic 43 dX3_push_42 rfl (1 : Int32) kic_1 ?_
      refine J_iadd 44 dX3_push_43 rfl ?_
      obtain ⟨σ10, hσ10, h⟩ := some_of_bind h
      refine J_pI 47 dX3_push_44 rfl pk_x_195 hσ10 ?_
      refine J.pick [1, 2] rfl ?_
      exact jX3_push_c47 hγ l0 l1  σ10 h
abbrev mX0_hashOf : MP := (cX0_hashOf, "MissCurves", 2, (Option.some FieldType.int), 0, "hashOf", [])
theorem ykX0_hashOf : YK yX0_hashOf mX0_hashOf 2 := ⟨q530, q128, ⟨by decide, by decide⟩, by decide +kernel, Nat.le_of_ble_eq_true rfl, by decide, rfl, rfl⟩
def X0_hashOf (l0 : Int32) (l1 : Int32) (σ : Hp) : Option (Int32 × Hp) :=
  some ((irm (((617 : Int32) * l0) + l1) (1000 : Int32)), σ)
set_option maxHeartbeats 4000000 in
theorem sX0_hashOf {γ : GP} (hγ : GOK γ) (l0 : Int32) (l1 : Int32) (σ : Hp) (q : (Int32 × Hp)) (h : X0_hashOf l0 l1 σ = some q) : Rn γ mX0_hashOf yX0_hashOf [.int l0, .int l1] (σ, .inr (some (.int q.1)), q.2) := by
  refine J_m hγ ykX0_hashOf rfl [(1, .int l0), (1, .int l1)] (cats_i (cats_i cats_nil)) (Nat.le_of_ble_eq_true rfl) ?_
  show J γ mX0_hashOf _ σ 0 [(0, 1, .int l0), (1, 1, .int l1)] []
  unfold X0_hashOf at h
  refine J_sipush 3 dX0_hashOf_0 rfl (617 : Int32) ksp_617 ?_
  refine J_iload_n (i := 0) 0 4 dX0_hashOf_3 rfl rfl rfl ?_
  refine J_imul 5 dX0_hashOf_4 rfl ?_
  refine J_iload_n (i := 1) 1 6 dX0_hashOf_5 rfl rfl rfl ?_
  refine J_iadd 7 dX0_hashOf_6 rfl ?_
  refine J_sipush 10 dX0_hashOf_7 rfl (1000 : Int32) ksp_1000 ?_
  refine J_irem 11 dX0_hashOf_10 rfl (by decide) ?_
  exact J_iret rfl dX0_hashOf_11 (retI h)
abbrev mX3_sampleIt : MP := (cX3_sampleIt, "MissCurves$Book", 9, (Option.none : Option FieldType), 2, "sampleIt", [])
theorem ykX3_sampleIt : YK yX3_sampleIt mX3_sampleIt 4 := ⟨q759, q134, ⟨by decide, by decide⟩, by decide +kernel, Nat.le_of_ble_eq_true rfl, by decide, rfl, rfl⟩
def X3_sampleIt_c104 (l0 : Option Nat) (l4 : Int32) (k138 : Int32 → Hp → Option Hp) : Nat → Int32 → Int32 → Hp → Option Hp
  | 0, _, _, _ => none
  | n + 1, l7, l8, σ =>
    (gI σ l0 [3] 6).bind fun v1 =>
    if v1 ≤ l8 then
      k138 l7 σ
    else
      (gR σ l0 [3] 2).bind fun v3 =>
      (aI 0 σ v3 l8).bind fun v4 =>
      (X0_hashOf v4 l4 σ).bind fun q5 =>
      X3_sampleIt_c104 l0 l4 k138 n (imax l7 q5.1) (l8 + (1 : Int32)) q5.2
set_option maxHeartbeats 4000000 in
theorem jX3_sampleIt_c104 {γ : GP} {σ0 : Hp} {q : Hp} (hγ : GOK γ) (l0 : Option Nat) (l4 : Int32) {k138 : Int32 → Hp → Option Hp} (hk138 : ∀ (l7 : Int32) (σ : Hp), k138 l7 σ = some q → J γ mX3_sampleIt (σ0, .inr none, q) σ 138 [(0, 1, va_rf l0), (4, 1, .int l4), (7, 1, .int l7)] []) : ∀ (n : Nat) (l7 : Int32) (l8 : Int32) (σ : Hp), X3_sampleIt_c104 l0 l4 k138 n l7 l8 σ = some q → J γ mX3_sampleIt (σ0, .inr none, q) σ 104 [(0, 1, va_rf l0), (4, 1, .int l4), (7, 1, .int l7), (8, 1, .int l8)] [] := by
  intro n
  induction n with
  | zero => intro l7 l8 σ h; exact nomatch (show none = some q from h)
  | succ n ih =>
    intro l7 l8 σ h
    rw [X3_sampleIt_c104] at h
    refine J_iload (i := 8) 3 106 dX3_sampleIt_104 rfl rfl ?_
    refine J_aload_n (i := 0) 0 107 dX3_sampleIt_106 rfl rfl rfl ?_
    obtain ⟨v1, hv1, h⟩ := some_of_bind h
    refine J_gI 110 dX3_sampleIt_107 rfl fk_x_196 hv1 ?_
    refine J_icmp_ge 138 113 dX3_sampleIt_110 (by decide) rfl (fun c2 => ?_) (fun c2 => ?_)
    · rw [if_pos c2] at h
      refine J.pick [0, 1, 2] rfl ?_
      exact hk138 l7 σ h
    · rw [if_neg c2] at h
      refine J_iload (i := 7) 2 115 dX3_sampleIt_113 rfl rfl ?_
      refine J_aload_n (i := 0) 0 116 dX3_sampleIt_115 rfl rfl rfl ?_
      obtain ⟨v3, hv3, h⟩ := some_of_bind h
      refine J_gR 119 dX3_sampleIt_116 rfl fk_x_191 hv3 ?_
      refine J_iload (i := 8) 3 121 dX3_sampleIt_119 rfl rfl ?_
      obtain ⟨v4, hv4, h⟩ := some_of_bind h
      refine J_iald 122 dX3_sampleIt_121 rfl hv4 ?_
      refine J_iload (i := 4) 1 124 dX3_sampleIt_122 rfl rfl ?_
      obtain ⟨q5, hq5, h⟩ := some_of_bind h
      refine J_cSi 127 dX3_sampleIt_124 rfl ykX0_hashOf (Or.inr ⟨_, q762⟩) q529 (Nat.le_of_ble_eq_true rfl) (cs_int cs_nil) (by decide) [.int v4, .int l4] rfl rfl (sX0_hashOf hγ v4 l4 σ q5 hq5) ?_
      refine J_mmaxI q763 (Nat.le_of_ble_eq_true rfl) cs_nil (by decide) 130 dX3_sampleIt_127 rfl ?_
      refine J_istore (i := 7) 132 [(7, 1, .int (imax l7 q5.1)), (0, 1, va_rf l0), (4, 1, .int l4), (8, 1, .int l8)] dX3_sampleIt_130 rfl (Nat.le_of_ble_eq_true rfl) rfl ?_
      refine J_iinc (i := 8) (v := l8 + (1 : Int32)) 3 135 [(8, 1, .int (l8 + (1 : Int32))), (7, 1, .int (imax l7 q5.1)), (0, 1, va_rf l0), (4, 1, .int l4)] dX3_sampleIt_132 rfl rfl (Nat.le_of_ble_eq_true rfl) (by rw [kic_1]) rfl ?_
      refine J_goto 104 dX3_sampleIt_135 (by decide) ?_
      refine J.pick [2, 3, 1, 0] rfl ?_
      exact ih (imax l7 q5.1) (l8 + (1 : Int32)) q5.2 h
def X3_sampleIt_c150 (l0 : Option Nat) (l4 : Int32)  : Nat → Int32 → Hp → Option Hp
  | 0, _, _ => none
  | n + 1, l8, σ =>
    if l8 ≤ 0 then
      some σ
    else
      (gR σ l0 [3] 2).bind fun v2 =>
      (aI 0 σ v2 (l8 - (1 : Int32))).bind fun v3 =>
      (X0_hashOf v3 l4 σ).bind fun q4 =>
      (gI q4.2 l0 [3] 8).bind fun v5 =>
      if v5 ≤ q4.1 then
        (gR q4.2 l0 [3] 2).bind fun v7 =>
        (gI q4.2 l0 [3] 6).bind fun v8 =>
        (X3_leave v7 v8 l8 q4.2).bind fun q9 =>
        (gI q9 l0 [3] 6).bind fun v10 =>
        (pI q9 l0 [3] 6 (v10 - (1 : Int32))).bind fun σ11 =>
        X3_sampleIt_c150 l0 l4 n (l8 + (-1 : Int32)) σ11
      else
        X3_sampleIt_c150 l0 l4 n (l8 + (-1 : Int32)) q4.2
set_option maxHeartbeats 4000000 in
theorem jX3_sampleIt_c150 {γ : GP} {σ0 : Hp} {q : Hp} (hγ : GOK γ) (l0 : Option Nat) (l4 : Int32)  : ∀ (n : Nat) (l8 : Int32) (σ : Hp), X3_sampleIt_c150 l0 l4 n l8 σ = some q → J γ mX3_sampleIt (σ0, .inr none, q) σ 150 [(0, 1, va_rf l0), (4, 1, .int l4), (8, 1, .int l8)] [] := by
  intro n
  induction n with
  | zero => intro l8 σ h; exact nomatch (show none = some q from h)
  | succ n ih =>
    intro l8 σ h
    rw [X3_sampleIt_c150] at h
    refine J_iload (i := 8) 2 152 dX3_sampleIt_150 rfl rfl ?_
    refine J_if_le 208 155 dX3_sampleIt_152 (by decide) rfl (fun c1 => ?_) (fun c1 => ?_)
    · rw [if_pos c1] at h
      exact J_vret rfl dX3_sampleIt_208 (retV h)
    · rw [if_neg c1] at h
      refine J_aload_n (i := 0) 0 156 dX3_sampleIt_155 rfl rfl rfl ?_
      obtain ⟨v2, hv2, h⟩ := some_of_bind h
      refine J_gR 159 dX3_sampleIt_156 rfl fk_x_191 hv2 ?_
      refine J_iload (i := 8) 2 161 dX3_sampleIt_159 rfl rfl ?_
      refine J_ic 162 dX3_sampleIt_161 rfl (1 : Int32) kic_1 ?_
      refine J_isub 163 dX3_sampleIt_162 rfl ?_
      obtain ⟨v3, hv3, h⟩ := some_of_bind h
      refine J_iald 164 dX3_sampleIt_163 rfl hv3 ?_
      refine J_iload (i := 4) 1 166 dX3_sampleIt_164 rfl rfl ?_
      obtain ⟨q4, hq4, h⟩ := some_of_bind h
      refine J_cSi 169 dX3_sampleIt_166 rfl ykX0_hashOf (Or.inr ⟨_, q762⟩) q529 (Nat.le_of_ble_eq_true rfl) cs_nil (by decide) [.int v3, .int l4] rfl rfl (sX0_hashOf hγ v3 l4 σ q4 hq4) ?_
      refine J_aload_n (i := 0) 0 170 dX3_sampleIt_169 rfl rfl rfl ?_
      obtain ⟨v5, hv5, h⟩ := some_of_bind h
      refine J_gI 173 dX3_sampleIt_170 rfl fk_x_200 hv5 ?_
      refine J_icmp_ge 179 176 dX3_sampleIt_173 (by decide) rfl (fun c6 => ?_) (fun c6 => ?_)
      · rw [if_pos c6] at h
        refine J_aload_n (i := 0) 0 180 dX3_sampleIt_179 rfl rfl rfl ?_
        obtain ⟨v7, hv7, h⟩ := some_of_bind h
        refine J_gR 183 dX3_sampleIt_180 rfl fk_x_191 hv7 ?_
        refine J_aload_n (i := 0) 0 184 dX3_sampleIt_183 rfl rfl rfl ?_
        obtain ⟨v8, hv8, h⟩ := some_of_bind h
        refine J_gI 187 dX3_sampleIt_184 rfl fk_x_196 hv8 ?_
        refine J_iload (i := 8) 2 189 dX3_sampleIt_187 rfl rfl ?_
        obtain ⟨q9, hq9, h⟩ := some_of_bind h
        refine J_cSv 192 dX3_sampleIt_189 rfl ykX3_leave (Or.inl q753) q754 (Nat.le_of_ble_eq_true rfl) cs_nil (by decide) [va_rf v7, .int v8, .int l8] rfl rfl (sX3_leave hγ v7 v8 l8 q4.2 q9 hq9) ?_
        refine J_aload_n (i := 0) 0 193 dX3_sampleIt_192 rfl rfl rfl ?_
        refine J_dupr 194 dX3_sampleIt_193 rfl ?_
        obtain ⟨v10, hv10, h⟩ := some_of_bind h
        refine J_gI 197 dX3_sampleIt_194 rfl fk_x_196 hv10 ?_
        refine J_ic 198 dX3_sampleIt_197 rfl (1 : Int32) kic_1 ?_
        refine J_isub 199 dX3_sampleIt_198 rfl ?_
        obtain ⟨σ11, hσ11, h⟩ := some_of_bind h
        refine J_pI 202 dX3_sampleIt_199 rfl pk_x_197 hσ11 ?_
        refine J_iinc (i := 8) (v := l8 + (-1 : Int32)) 2 205 [(8, 1, .int (l8 + (-1 : Int32))), (0, 1, va_rf l0), (4, 1, .int l4)] dX3_sampleIt_202 rfl rfl (Nat.le_of_ble_eq_true rfl) (by rw [kic_m1]) rfl ?_
        refine J_goto 150 dX3_sampleIt_205 (by decide) ?_
        refine J.pick [1, 2, 0] rfl ?_
        exact ih (l8 + (-1 : Int32)) σ11 h
      · rw [if_neg c6] at h
        refine J_goto 202 dX3_sampleIt_176 (by decide) ?_
        refine J_iinc (i := 8) (v := l8 + (-1 : Int32)) 2 205 [(8, 1, .int (l8 + (-1 : Int32))), (0, 1, va_rf l0), (4, 1, .int l4)] dX3_sampleIt_202 rfl rfl (Nat.le_of_ble_eq_true rfl) (by rw [kic_m1]) rfl ?_
        refine J_goto 150 dX3_sampleIt_205 (by decide) ?_
        refine J.pick [1, 2, 0] rfl ?_
        exact ih (l8 + (-1 : Int32)) q4.2 h
def X3_sampleIt_c88  (l0 : Option Nat) (l4 : Int32)  (σ : Hp) : Option Hp :=
  (gI σ l0 [3] 6).bind fun v1 =>
  if (6 : Int32) < v1 then
    X3_sampleIt_c104 l0 l4 (fun x3 τ4 =>
      (pI τ4 l0 [3] 8 x3).bind fun σ5 =>
      (gI σ5 l0 [3] 6).bind fun v6 =>
      X3_sampleIt_c150 l0 l4  FUEL v6 σ5) FUEL (0 : Int32) (0 : Int32) σ
  else
    some σ
set_option maxHeartbeats 4000000 in
theorem jX3_sampleIt_c88 {γ : GP} {σ0 : Hp} {q : Hp} (hγ : GOK γ) (l0 : Option Nat) (l4 : Int32)   (σ : Hp) (h : X3_sampleIt_c88 l0 l4 σ = some q) : J γ mX3_sampleIt (σ0, .inr none, q) σ 88 [(0, 1, va_rf l0), (4, 1, .int l4)] [] := by
  unfold X3_sampleIt_c88 at h
  refine J_aload_n (i := 0) 0 89 dX3_sampleIt_88 rfl rfl rfl ?_
  obtain ⟨v1, hv1, h⟩ := some_of_bind h
  refine J_gI 92 dX3_sampleIt_89 rfl fk_x_196 hv1 ?_
  refine J_bipush 94 dX3_sampleIt_92 rfl (6 : Int32) kbp_6 ?_
  refine J_icmp_gt 98 97 dX3_sampleIt_94 (by decide) rfl (fun c2 => ?_) (fun c2 => ?_)
  · rw [if_pos c2] at h
    refine J_ic 99 dX3_sampleIt_98 rfl (0 : Int32) kic_0 ?_
    refine J_istore (i := 7) 101 [(7, 1, .int (0 : Int32)), (0, 1, va_rf l0), (4, 1, .int l4)] dX3_sampleIt_99 rfl (Nat.le_of_ble_eq_true rfl) rfl ?_
    refine J_ic 102 dX3_sampleIt_101 rfl (0 : Int32) kic_0 ?_
    refine J_istore (i := 8) 104 [(8, 1, .int (0 : Int32)), (7, 1, .int (0 : Int32)), (0, 1, va_rf l0), (4, 1, .int l4)] dX3_sampleIt_102 rfl (Nat.le_of_ble_eq_true rfl) rfl ?_
    refine J.pick [2, 3, 1, 0] rfl ?_
    refine jX3_sampleIt_c104 hγ l0 l4 (fun x3 τ4 h => ?_) FUEL (0 : Int32) (0 : Int32) σ h
    · refine J_aload_n (i := 0) 0 139 dX3_sampleIt_138 rfl rfl rfl ?_
      refine J_iload (i := 7) 2 141 dX3_sampleIt_139 rfl rfl ?_
      obtain ⟨σ5, hσ5, h⟩ := some_of_bind h
      refine J_pI 144 dX3_sampleIt_141 rfl pk_x_201 hσ5 ?_
      refine J_aload_n (i := 0) 0 145 dX3_sampleIt_144 rfl rfl rfl ?_
      obtain ⟨v6, hv6, h⟩ := some_of_bind h
      refine J_gI 148 dX3_sampleIt_145 rfl fk_x_196 hv6 ?_
      refine J_istore (i := 8) 150 [(8, 1, .int v6), (0, 1, va_rf l0), (4, 1, .int l4), (7, 1, .int x3)] dX3_sampleIt_148 rfl (Nat.le_of_ble_eq_true rfl) rfl ?_
      refine J.pick [1, 2, 0] rfl ?_
      refine jX3_sampleIt_c150 hγ l0 l4  FUEL v6 σ5 h
  · rw [if_neg c2] at h
    exact J_vret rfl dX3_sampleIt_97 (retV h)
def X3_sampleIt_c43  (l0 : Option Nat) (l1 : Int32) (l3 : Int32) (l4 : Int32) (l5 : Int32) (s0 : Option Nat) (s1 : Int32) (σ : Hp) : Option Hp :=
  (aL σ s0 s1).bind fun v1 =>
  (gI σ l0 [3] 8).bind fun v2 =>
  if v2.toInt64 = 0 then none else
  (sL σ s0 s1 (v1 + (((1000000 : Int64) * l3.toInt64) / v2.toInt64))).bind fun σ4 =>
  (gR σ4 l0 [3] 2).bind fun v5 =>
  (gI σ4 l0 [3] 6).bind fun v6 =>
  (X3_first v5 v6 l5 l1 σ4).bind fun q7 =>
  if l5 = 0 then
    (gI q7 l0 [3] 6).bind fun v9 =>
    (pI q7 l0 [3] 6 (v9 + (1 : Int32))).bind fun σ10 =>
    X3_sampleIt_c88  l0 l4  σ10
  else
    X3_sampleIt_c88  l0 l4  q7
set_option maxHeartbeats 4000000 in
theorem jX3_sampleIt_c43 {γ : GP} {σ0 : Hp} {q : Hp} (hγ : GOK γ) (l0 : Option Nat) (l1 : Int32) (l3 : Int32) (l4 : Int32) (l5 : Int32)  (s0 : Option Nat) (s1 : Int32) (σ : Hp) (h : X3_sampleIt_c43 l0 l1 l3 l4 l5 s0 s1 σ = some q) : J γ mX3_sampleIt (σ0, .inr none, q) σ 43 [(0, 1, va_rf l0), (1, 1, .int l1), (3, 1, .int l3), (4, 1, .int l4), (5, 1, .int l5)] [.int s1, va_rf s0] := by
  unfold X3_sampleIt_c43 at h
  refine J_dup2ir 44 dX3_sampleIt_43 rfl ?_
  obtain ⟨v1, hv1, h⟩ := some_of_bind h
  refine J_lald 45 dX3_sampleIt_44 rfl hv1 ?_
  refine J_ldc2 (v := (1000000 : Int64)) 48 dX3_sampleIt_45 rfl q761 ?_
  refine J_iload_n (i := 3) 2 49 dX3_sampleIt_48 rfl rfl rfl ?_
  refine J_i2l 50 dX3_sampleIt_49 rfl ?_
  refine J_lmul 51 dX3_sampleIt_50 rfl ?_
  refine J_aload_n (i := 0) 0 52 dX3_sampleIt_51 rfl rfl rfl ?_
  obtain ⟨v2, hv2, h⟩ := some_of_bind h
  refine J_gI 55 dX3_sampleIt_52 rfl fk_x_200 hv2 ?_
  refine J_i2l 56 dX3_sampleIt_55 rfl ?_
  rcases Classical.em (v2.toInt64 = 0) with c3 | c3
  · rw [if_pos c3] at h; cases h
  · rw [if_neg c3] at h
    refine J_ldiv 57 dX3_sampleIt_56 rfl c3 ?_
    refine J_ladd 58 dX3_sampleIt_57 rfl ?_
    obtain ⟨σ4, hσ4, h⟩ := some_of_bind h
    refine J_last 59 dX3_sampleIt_58 rfl hσ4 ?_
    refine J_aload_n (i := 0) 0 60 dX3_sampleIt_59 rfl rfl rfl ?_
    obtain ⟨v5, hv5, h⟩ := some_of_bind h
    refine J_gR 63 dX3_sampleIt_60 rfl fk_x_191 hv5 ?_
    refine J_aload_n (i := 0) 0 64 dX3_sampleIt_63 rfl rfl rfl ?_
    obtain ⟨v6, hv6, h⟩ := some_of_bind h
    refine J_gI 67 dX3_sampleIt_64 rfl fk_x_196 hv6 ?_
    refine J_iload (i := 5) 4 69 dX3_sampleIt_67 rfl rfl ?_
    refine J_iload_n (i := 1) 1 70 dX3_sampleIt_69 rfl rfl rfl ?_
    obtain ⟨q7, hq7, h⟩ := some_of_bind h
    refine J_cSv 73 dX3_sampleIt_70 rfl ykX3_first (Or.inl q749) q750 (Nat.le_of_ble_eq_true rfl) cs_nil (by decide) [va_rf v5, .int v6, .int l5, .int l1] rfl rfl (sX3_first hγ v5 v6 l5 l1 σ4 q7 hq7) ?_
    refine J_iload (i := 5) 4 75 dX3_sampleIt_73 rfl rfl ?_
    refine J_if_ne 88 78 dX3_sampleIt_75 (by decide) rfl (fun c8 => ?_) (fun c8 => ?_)
    · rw [if_neg c8] at h
      refine J.pick [0, 3] rfl ?_
      exact jX3_sampleIt_c88 hγ l0 l4  q7 h
    · rw [if_pos c8] at h
      refine J_aload_n (i := 0) 0 79 dX3_sampleIt_78 rfl rfl rfl ?_
      refine J_dupr 80 dX3_sampleIt_79 rfl ?_
      obtain ⟨v9, hv9, h⟩ := some_of_bind h
      refine J_gI 83 dX3_sampleIt_80 rfl fk_x_196 hv9 ?_
      refine J_ic 84 dX3_sampleIt_83 rfl (1 : Int32) kic_1 ?_
      refine J_iadd 85 dX3_sampleIt_84 rfl ?_
      obtain ⟨σ10, hσ10, h⟩ := some_of_bind h
      refine J_pI 88 dX3_sampleIt_85 rfl pk_x_197 hσ10 ?_
      refine J.pick [0, 3] rfl ?_
      exact jX3_sampleIt_c88 hγ l0 l4  σ10 h
def X3_sampleIt (l0 : Option Nat) (l1 : Int32) (l2 : Int32) (l3 : Int32) (l4 : Int32) (σ : Hp) : Option Hp :=
  (cT σ l0 3).bind fun b2 =>
  (X3_placeSampled l0 l1 σ).bind fun q1 =>
  (gI q1.2 l0 [3] 8).bind fun v3 =>
  if v3 = 0 then none else
  (gR q1.2 l0 [3] 4).bind fun v5 =>
  if q1.1 = 0 then
    X3_sampleIt_c43  l0 l1 l3 l4 q1.1 v5 (25 : Int32) q1.2
  else
    if ((q1.1 * (1000 : Int32)) / v3) ≤ (24 : Int32) then
      X3_sampleIt_c43  l0 l1 l3 l4 q1.1 v5 ((q1.1 * (1000 : Int32)) / v3) q1.2
    else
      X3_sampleIt_c43  l0 l1 l3 l4 q1.1 v5 (25 : Int32) q1.2
set_option maxHeartbeats 4000000 in
theorem sX3_sampleIt {γ : GP} (hγ : GOK γ) (l0 : Option Nat) (l1 : Int32) (l2 : Int32) (l3 : Int32) (l4 : Int32) (σ : Hp) (q : Hp) (h : X3_sampleIt l0 l1 l2 l3 l4 σ = some q) : Rn γ mX3_sampleIt yX3_sampleIt [va_rf l0, .int l1, .int l2, .int l3, .int l4] (σ, .inr none, q) := by
  refine J_m hγ ykX3_sampleIt rfl [(1, va_rf l0), (1, .int l1), (1, .int l2), (1, .int l3), (1, .int l4)] (cats_r (cats_i (cats_i (cats_i (cats_i cats_nil))))) (Nat.le_of_ble_eq_true rfl) ?_
  show J γ mX3_sampleIt _ σ 0 [(0, 1, va_rf l0), (1, 1, .int l1), (2, 1, .int l2), (3, 1, .int l3), (4, 1, .int l4)] []
  unfold X3_sampleIt at h
  refine J_aload_n (i := 0) 0 1 dX3_sampleIt_0 rfl rfl rfl ?_
  refine J_iload_n (i := 1) 1 2 dX3_sampleIt_1 rfl rfl rfl ?_
  obtain ⟨b2, hb2, h⟩ := some_of_bind h
  obtain ⟨q1, hq1, h⟩ := some_of_bind h
  refine J_cVi 5 dX3_sampleIt_2 rfl ykX3_placeSampled (Or.inl q760) q525 q526 (Nat.le_of_ble_eq_true rfl) cs_nil (by decide) [.int l1] hb2 (by decide) rfl rfl rfl (sX3_placeSampled hγ l0 l1 σ q1 hq1) ?_
  refine J_istore (i := 5) 7 [(5, 1, .int q1.1), (0, 1, va_rf l0), (1, 1, .int l1), (2, 1, .int l2), (3, 1, .int l3), (4, 1, .int l4)] dX3_sampleIt_5 rfl (Nat.le_of_ble_eq_true rfl) rfl ?_
  refine J_iload (i := 5) 0 9 dX3_sampleIt_7 rfl rfl ?_
  refine J_sipush 12 dX3_sampleIt_9 rfl (1000 : Int32) ksp_1000 ?_
  refine J_imul 13 dX3_sampleIt_12 rfl ?_
  refine J_aload_n (i := 0) 1 14 dX3_sampleIt_13 rfl rfl rfl ?_
  obtain ⟨v3, hv3, h⟩ := some_of_bind h
  refine J_gI 17 dX3_sampleIt_14 rfl fk_x_200 hv3 ?_
  rcases Classical.em (v3 = 0) with c4 | c4
  · rw [if_pos c4] at h; cases h
  · rw [if_neg c4] at h
    refine J_idiv 18 dX3_sampleIt_17 rfl c4 ?_
    refine J_istore (i := 6) 20 [(6, 1, .int ((q1.1 * (1000 : Int32)) / v3)), (5, 1, .int q1.1), (0, 1, va_rf l0), (1, 1, .int l1), (2, 1, .int l2), (3, 1, .int l3), (4, 1, .int l4)] dX3_sampleIt_18 rfl (Nat.le_of_ble_eq_true rfl) rfl ?_
    refine J_aload_n (i := 0) 2 21 dX3_sampleIt_20 rfl rfl rfl ?_
    obtain ⟨v5, hv5, h⟩ := some_of_bind h
    refine J_gR 24 dX3_sampleIt_21 rfl fk_x_193 hv5 ?_
    refine J_iload (i := 5) 1 26 dX3_sampleIt_24 rfl rfl ?_
    refine J_if_eq 36 29 dX3_sampleIt_26 (by decide) rfl (fun c6 => ?_) (fun c6 => ?_)
    · rw [if_pos c6] at h
      refine J_bipush 38 dX3_sampleIt_36 rfl (25 : Int32) kbp_25 ?_
      refine J_goto 43 dX3_sampleIt_38 (by decide) ?_
      refine J.pick [2, 3, 5, 6, 1] rfl ?_
      exact jX3_sampleIt_c43 hγ l0 l1 l3 l4 q1.1 v5 (25 : Int32) q1.2 h
    · rw [if_neg c6] at h
      refine J_iload (i := 6) 0 31 dX3_sampleIt_29 rfl rfl ?_
      refine J_bipush 33 dX3_sampleIt_31 rfl (24 : Int32) kbp_24 ?_
      refine J_icmp_le 41 36 dX3_sampleIt_33 (by decide) rfl (fun c7 => ?_) (fun c7 => ?_)
      · rw [if_pos c7] at h
        refine J_iload (i := 6) 0 43 dX3_sampleIt_41 rfl rfl ?_
        refine J.pick [2, 3, 5, 6, 1] rfl ?_
        exact jX3_sampleIt_c43 hγ l0 l1 l3 l4 q1.1 v5 ((q1.1 * (1000 : Int32)) / v3) q1.2 h
      · rw [if_neg c7] at h
        refine J_bipush 38 dX3_sampleIt_36 rfl (25 : Int32) kbp_25 ?_
        refine J_goto 43 dX3_sampleIt_38 (by decide) ?_
        refine J.pick [2, 3, 5, 6, 1] rfl ?_
        exact jX3_sampleIt_c43 hγ l0 l1 l3 l4 q1.1 v5 (25 : Int32) q1.2 h
abbrev mX4_append : MP := (cX4_append, "MissCurves$Steps", 4, (Option.none : Option FieldType), 3, "append", [])
theorem ykX4_append : YK yX4_append mX4_append 2 := ⟨q1583, q135, ⟨by decide, by decide⟩, by decide +kernel, Nat.le_of_ble_eq_true rfl, by decide, rfl, rfl⟩
theorem fk_x_217 : FOK "MissCurves$Steps" 11 [4] 0 isR := FOK.one (by decide) rfl (Nat.le_of_ble_eq_true rfl) (Or.inl ⟨_, q331, Or.inl rfl⟩) rfl
theorem fk_x_218 : FOK "MissCurves$Steps" 18 [4] 1 isI := FOK.one (by decide) rfl (Nat.le_of_ble_eq_true rfl) (Or.inl ⟨_, q333, Or.inl rfl⟩) rfl
theorem pk_x_219 {nm9 : String} : POK "MissCurves$Steps" nm9 32 [2] 2 .int := POK.one (by decide) rfl (Nat.le_of_ble_eq_true rfl) (Or.inr ⟨_, q283⟩) rfl (by decide +kernel) (Or.inl rfl)
theorem pk_x_220 {nm9 : String} : POK "MissCurves$Steps" nm9 18 [4] 1 .int := POK.one (by decide) rfl (Nat.le_of_ble_eq_true rfl) (Or.inl ⟨_, q333, Or.inl rfl⟩) rfl (by decide +kernel) (Or.inl rfl)
def X4_append_c49  (l0 : Option Nat) (l1 : Option Nat) (l2 : Int32)  (σ : Hp) : Option Hp :=
  (gR σ l0 [4] 0).bind fun v1 =>
  (gI σ l0 [4] 1).bind fun v2 =>
  (aR 8 σ v1 v2).bind fun v3 =>
  (cT σ v3 2).bind fun b5 =>
  (X2_as v3 l1 σ).bind fun q4 =>
  (pI q4.2 q4.1 [2] 2 l2).bind fun σ6 =>
  (gI σ6 l0 [4] 1).bind fun v7 =>
  (pI σ6 l0 [4] 1 (v7 + (1 : Int32))).bind fun σ8 =>
  some σ8
set_option maxHeartbeats 4000000 in
theorem jX4_append_c49 {γ : GP} {σ0 : Hp} {q : Hp} (hγ : GOK γ) (l0 : Option Nat) (l1 : Option Nat) (l2 : Int32)   (σ : Hp) (h : X4_append_c49 l0 l1 l2 σ = some q) : J γ mX4_append (σ0, .inr none, q) σ 49 [(0, 1, va_rf l0), (1, 1, va_rf l1), (2, 1, .int l2)] [] := by
  unfold X4_append_c49 at h
  refine J_aload_n (i := 0) 0 50 dX4_append_49 rfl rfl rfl ?_
  obtain ⟨v1, hv1, h⟩ := some_of_bind h
  refine J_gR 53 dX4_append_50 rfl fk_x_217 hv1 ?_
  refine J_aload_n (i := 0) 0 54 dX4_append_53 rfl rfl rfl ?_
  obtain ⟨v2, hv2, h⟩ := some_of_bind h
  refine J_gI 57 dX4_append_54 rfl fk_x_218 hv2 ?_
  obtain ⟨v3, hv3, h⟩ := some_of_bind h
  refine J_aald 8 (by decide) (by decide) rfl 58 dX4_append_57 rfl hv3 ?_
  refine J_aload_n (i := 1) 1 59 dX4_append_58 rfl rfl rfl ?_
  obtain ⟨b5, hb5, h⟩ := some_of_bind h
  obtain ⟨q4, hq4, h⟩ := some_of_bind h
  refine J_cVr 62 dX4_append_59 rfl ykX2_as (Or.inl q1585) q1586 q1587 (Nat.le_of_ble_eq_true rfl) cs_nil (by decide) [va_rf l1] hb5 (by decide) rfl rfl rfl (sX2_as hγ v3 l1 σ q4 hq4) ?_
  refine J_iload_n (i := 2) 2 63 dX4_append_62 rfl rfl rfl ?_
  obtain ⟨σ6, hσ6, h⟩ := some_of_bind h
  refine J_pI 66 dX4_append_63 rfl pk_x_219 hσ6 ?_
  refine J_aload_n (i := 0) 0 67 dX4_append_66 rfl rfl rfl ?_
  refine J_dupr 68 dX4_append_67 rfl ?_
  obtain ⟨v7, hv7, h⟩ := some_of_bind h
  refine J_gI 71 dX4_append_68 rfl fk_x_218 hv7 ?_
  refine J_ic 72 dX4_append_71 rfl (1 : Int32) kic_1 ?_
  refine J_iadd 73 dX4_append_72 rfl ?_
  obtain ⟨σ8, hσ8, h⟩ := some_of_bind h
  refine J_pI 76 dX4_append_73 rfl pk_x_220 hσ8 ?_
  exact J_vret rfl dX4_append_76 (retV h)
def X4_append (l0 : Option Nat) (l1 : Option Nat) (l2 : Int32) (σ : Hp) : Option Hp :=
  (gI σ l0 [4] 1).bind fun v1 =>
  if v1 = (16 : Int32) then
    (gR σ l0 [4] 0).bind fun v3 =>
    (aR 8 σ v3 (0 : Int32)).bind fun v4 =>
    (gR σ l0 [4] 0).bind fun v5 =>
    (gR σ l0 [4] 0).bind fun v6 =>
    (cpR 8 8 σ v5 (1 : Int32) v6 (0 : Int32) (15 : Int32)).bind fun σ7 =>
    (gR σ7 l0 [4] 0).bind fun v8 =>
    (sR 8 σ7 v8 (15 : Int32) v4).bind fun σ9 =>
    (gI σ9 l0 [4] 1).bind fun v10 =>
    (pI σ9 l0 [4] 1 (v10 - (1 : Int32))).bind fun σ11 =>
    X4_append_c49  l0 l1 l2  σ11
  else
    X4_append_c49  l0 l1 l2  σ
set_option maxHeartbeats 4000000 in
theorem sX4_append {γ : GP} (hγ : GOK γ) (l0 : Option Nat) (l1 : Option Nat) (l2 : Int32) (σ : Hp) (q : Hp) (h : X4_append l0 l1 l2 σ = some q) : Rn γ mX4_append yX4_append [va_rf l0, va_rf l1, .int l2] (σ, .inr none, q) := by
  refine J_m hγ ykX4_append rfl [(1, va_rf l0), (1, va_rf l1), (1, .int l2)] (cats_r (cats_r (cats_i cats_nil))) (Nat.le_of_ble_eq_true rfl) ?_
  show J γ mX4_append _ σ 0 [(0, 1, va_rf l0), (1, 1, va_rf l1), (2, 1, .int l2)] []
  unfold X4_append at h
  refine J_aload_n (i := 0) 0 1 dX4_append_0 rfl rfl rfl ?_
  obtain ⟨v1, hv1, h⟩ := some_of_bind h
  refine J_gI 4 dX4_append_1 rfl fk_x_218 hv1 ?_
  refine J_bipush 6 dX4_append_4 rfl (16 : Int32) kbp_16 ?_
  refine J_icmp_ne 49 9 dX4_append_6 (by decide) rfl (fun c2 => ?_) (fun c2 => ?_)
  · rw [if_neg c2] at h
    exact jX4_append_c49 hγ l0 l1 l2  σ h
  · rw [if_pos c2] at h
    refine J_aload_n (i := 0) 0 10 dX4_append_9 rfl rfl rfl ?_
    obtain ⟨v3, hv3, h⟩ := some_of_bind h
    refine J_gR 13 dX4_append_10 rfl fk_x_217 hv3 ?_
    refine J_ic 14 dX4_append_13 rfl (0 : Int32) kic_0 ?_
    obtain ⟨v4, hv4, h⟩ := some_of_bind h
    refine J_aald 8 (by decide) (by decide) rfl 15 dX4_append_14 rfl hv4 ?_
    refine J_astore_n (i := 3) 16 [(3, 1, va_rf v4), (0, 1, va_rf l0), (1, 1, va_rf l1), (2, 1, .int l2)] dX4_append_15 rfl rfl (Nat.le_of_ble_eq_true rfl) rfl ?_
    refine J_aload_n (i := 0) 1 17 dX4_append_16 rfl rfl rfl ?_
    obtain ⟨v5, hv5, h⟩ := some_of_bind h
    refine J_gR 20 dX4_append_17 rfl fk_x_217 hv5 ?_
    refine J_ic 21 dX4_append_20 rfl (1 : Int32) kic_1 ?_
    refine J_aload_n (i := 0) 1 22 dX4_append_21 rfl rfl rfl ?_
    obtain ⟨v6, hv6, h⟩ := some_of_bind h
    refine J_gR 25 dX4_append_22 rfl fk_x_217 hv6 ?_
    refine J_ic 26 dX4_append_25 rfl (0 : Int32) kic_0 ?_
    refine J_bipush 28 dX4_append_26 rfl (15 : Int32) kbp_15 ?_
    obtain ⟨σ7, hσ7, h⟩ := some_of_bind h
    refine J_cpR 8 8 (by decide) (by decide) (by decide) (by decide) q1584 (Nat.le_of_ble_eq_true rfl) cs_nil (by decide) 31 dX4_append_28 rfl hσ7 ?_
    refine J_aload_n (i := 0) 1 32 dX4_append_31 rfl rfl rfl ?_
    obtain ⟨v8, hv8, h⟩ := some_of_bind h
    refine J_gR 35 dX4_append_32 rfl fk_x_217 hv8 ?_
    refine J_bipush 37 dX4_append_35 rfl (15 : Int32) kbp_15 ?_
    refine J_aload_n (i := 3) 0 38 dX4_append_37 rfl rfl rfl ?_
    obtain ⟨σ9, hσ9, h⟩ := some_of_bind h
    refine J_aast 8 (by decide) (by decide) 39 dX4_append_38 rfl hσ9 ?_
    refine J_aload_n (i := 0) 1 40 dX4_append_39 rfl rfl rfl ?_
    refine J_dupr 41 dX4_append_40 rfl ?_
    obtain ⟨v10, hv10, h⟩ := some_of_bind h
    refine J_gI 44 dX4_append_41 rfl fk_x_218 hv10 ?_
    refine J_ic 45 dX4_append_44 rfl (1 : Int32) kic_1 ?_
    refine J_isub 46 dX4_append_45 rfl ?_
    obtain ⟨σ11, hσ11, h⟩ := some_of_bind h
    refine J_pI 49 dX4_append_46 rfl pk_x_220 hσ11 ?_
    refine J.pick [1, 2, 3] rfl ?_
    exact jX4_append_c49 hγ l0 l1 l2  σ11 h
abbrev mX4_as : MP := (cX4_as, "MissCurves$Steps", 3, (Option.none : Option FieldType), 3, "as", [])
theorem ykX4_as : YK yX4_as mX4_as 1 := ⟨q2096, q135, ⟨by decide, by decide⟩, by decide +kernel, Nat.le_of_ble_eq_true rfl, by decide, rfl, rfl⟩
def X4_as_c10 (l0 : Option Nat) (l1 : Option Nat)  : Nat → Int32 → Hp → Option Hp
  | 0, _, _ => none
  | n + 1, l2, σ =>
    (gI σ l0 [4] 1).bind fun v1 =>
    if v1 ≤ l2 then
      some σ
    else
      (gR σ l0 [4] 0).bind fun v3 =>
      (aR 8 σ v3 l2).bind fun v4 =>
      (gR σ l1 [4] 0).bind fun v5 =>
      (aR 8 σ v5 l2).bind fun v6 =>
      (cT σ v4 2).bind fun b8 =>
      (X2_as v4 v6 σ).bind fun q7 =>
      X4_as_c10 l0 l1 n (l2 + (1 : Int32)) q7.2
set_option maxHeartbeats 4000000 in
theorem jX4_as_c10 {γ : GP} {σ0 : Hp} {q : Hp} (hγ : GOK γ) (l0 : Option Nat) (l1 : Option Nat)  : ∀ (n : Nat) (l2 : Int32) (σ : Hp), X4_as_c10 l0 l1 n l2 σ = some q → J γ mX4_as (σ0, .inr none, q) σ 10 [(0, 1, va_rf l0), (1, 1, va_rf l1), (2, 1, .int l2)] [] := by
  intro n
  induction n with
  | zero => intro l2 σ h; exact nomatch (show none = some q from h)
  | succ n ih =>
    intro l2 σ h
    rw [X4_as_c10] at h
    refine J_iload_n (i := 2) 2 11 dX4_as_10 rfl rfl rfl ?_
    refine J_aload_n (i := 0) 0 12 dX4_as_11 rfl rfl rfl ?_
    obtain ⟨v1, hv1, h⟩ := some_of_bind h
    refine J_gI 15 dX4_as_12 rfl fk_x_218 hv1 ?_
    refine J_icmp_ge 40 18 dX4_as_15 (by decide) rfl (fun c2 => ?_) (fun c2 => ?_)
    · rw [if_pos c2] at h
      exact J_vret rfl dX4_as_40 (retV h)
    · rw [if_neg c2] at h
      refine J_aload_n (i := 0) 0 19 dX4_as_18 rfl rfl rfl ?_
      obtain ⟨v3, hv3, h⟩ := some_of_bind h
      refine J_gR 22 dX4_as_19 rfl fk_x_217 hv3 ?_
      refine J_iload_n (i := 2) 2 23 dX4_as_22 rfl rfl rfl ?_
      obtain ⟨v4, hv4, h⟩ := some_of_bind h
      refine J_aald 8 (by decide) (by decide) rfl 24 dX4_as_23 rfl hv4 ?_
      refine J_aload_n (i := 1) 1 25 dX4_as_24 rfl rfl rfl ?_
      obtain ⟨v5, hv5, h⟩ := some_of_bind h
      refine J_gR 28 dX4_as_25 rfl fk_x_217 hv5 ?_
      refine J_iload_n (i := 2) 2 29 dX4_as_28 rfl rfl rfl ?_
      obtain ⟨v6, hv6, h⟩ := some_of_bind h
      refine J_aald 8 (by decide) (by decide) rfl 30 dX4_as_29 rfl hv6 ?_
      obtain ⟨b8, hb8, h⟩ := some_of_bind h
      obtain ⟨q7, hq7, h⟩ := some_of_bind h
      refine J_cVr 33 dX4_as_30 rfl ykX2_as (Or.inl q1585) q1586 q1587 (Nat.le_of_ble_eq_true rfl) cs_nil (by decide) [va_rf v6] hb8 (by decide) rfl rfl rfl (sX2_as hγ v4 v6 σ q7 hq7) ?_
      refine J_popr 34 dX4_as_33 rfl ?_
      refine J_iinc (i := 2) (v := l2 + (1 : Int32)) 2 37 [(2, 1, .int (l2 + (1 : Int32))), (0, 1, va_rf l0), (1, 1, va_rf l1)] dX4_as_34 rfl rfl (Nat.le_of_ble_eq_true rfl) (by rw [kic_1]) rfl ?_
      refine J_goto 10 dX4_as_37 (by decide) ?_
      refine J.pick [1, 2, 0] rfl ?_
      exact ih (l2 + (1 : Int32)) q7.2 h
def X4_as (l0 : Option Nat) (l1 : Option Nat) (σ : Hp) : Option Hp :=
  (gI σ l1 [4] 1).bind fun v1 =>
  (pI σ l0 [4] 1 v1).bind fun σ2 =>
  X4_as_c10 l0 l1  FUEL (0 : Int32) σ2
set_option maxHeartbeats 4000000 in
theorem sX4_as {γ : GP} (hγ : GOK γ) (l0 : Option Nat) (l1 : Option Nat) (σ : Hp) (q : Hp) (h : X4_as l0 l1 σ = some q) : Rn γ mX4_as yX4_as [va_rf l0, va_rf l1] (σ, .inr none, q) := by
  refine J_m hγ ykX4_as rfl [(1, va_rf l0), (1, va_rf l1)] (cats_r (cats_r cats_nil)) (Nat.le_of_ble_eq_true rfl) ?_
  show J γ mX4_as _ σ 0 [(0, 1, va_rf l0), (1, 1, va_rf l1)] []
  unfold X4_as at h
  refine J_aload_n (i := 0) 0 1 dX4_as_0 rfl rfl rfl ?_
  refine J_aload_n (i := 1) 1 2 dX4_as_1 rfl rfl rfl ?_
  obtain ⟨v1, hv1, h⟩ := some_of_bind h
  refine J_gI 5 dX4_as_2 rfl fk_x_218 hv1 ?_
  obtain ⟨σ2, hσ2, h⟩ := some_of_bind h
  refine J_pI 8 dX4_as_5 rfl pk_x_220 hσ2 ?_
  refine J_ic 9 dX4_as_8 rfl (0 : Int32) kic_0 ?_
  refine J_istore_n (i := 2) 10 [(2, 1, .int (0 : Int32)), (0, 1, va_rf l0), (1, 1, va_rf l1)] dX4_as_9 rfl rfl (Nat.le_of_ble_eq_true rfl) rfl ?_
  refine J.pick [1, 2, 0] rfl ?_
  refine jX4_as_c10 hγ l0 l1  FUEL (0 : Int32) σ2 h
abbrev mX4_init : MP := (cX4_init, "MissCurves$Steps", 2, (Option.none : Option FieldType), 3, "<init>", [])
theorem ykX4_init : YK yX4_init mX4_init 0 := ⟨q326, q135, ⟨by decide, by decide⟩, by decide +kernel, Nat.le_of_ble_eq_true rfl, by decide, rfl, rfl⟩
theorem pk_x_221 : POK "MissCurves$Steps" "<init>" 11 [4] 0 (.array (.object "MissCurves$Books")) := POK.one (by decide) rfl (Nat.le_of_ble_eq_true rfl) (Or.inl ⟨_, q331, Or.inl rfl⟩) rfl (by decide +kernel) (Or.inr ⟨rfl, rfl, rfl, _, q331, Or.inl rfl⟩)
def X4_init_c15 (l0 : Option Nat)  : Nat → Int32 → Hp → Option Hp
  | 0, _, _ => none
  | n + 1, l1, σ =>
    if (16 : Int32) ≤ l1 then
      some σ
    else
      (gR σ l0 [4] 0).bind fun v2 =>
      (some (hsz σ)).bind fun b4 =>
      (X2_init (some (hsz σ))  (wN σ 2 0 3)).bind fun q3 =>
      (sR 8 q3 v2 l1 (some (hsz σ))).bind fun σ5 =>
      X4_init_c15 l0 n (l1 + (1 : Int32)) σ5
set_option maxHeartbeats 4000000 in
theorem jX4_init_c15 {γ : GP} {σ0 : Hp} {q : Hp} (hγ : GOK γ) (l0 : Option Nat)  : ∀ (n : Nat) (l1 : Int32) (σ : Hp), X4_init_c15 l0 n l1 σ = some q → J γ mX4_init (σ0, .inr none, q) σ 15 [(0, 1, va_rf l0), (1, 1, .int l1)] [] := by
  intro n
  induction n with
  | zero => intro l1 σ h; exact nomatch (show none = some q from h)
  | succ n ih =>
    intro l1 σ h
    rw [X4_init_c15] at h
    refine J_iload_n (i := 1) 1 16 dX4_init_15 rfl rfl rfl ?_
    refine J_bipush 18 dX4_init_16 rfl (16 : Int32) kbp_16 ?_
    refine J_icmp_ge 40 21 dX4_init_18 (by decide) rfl (fun c1 => ?_) (fun c1 => ?_)
    · rw [if_pos c1] at h
      exact J_vret rfl dX4_init_40 (retV h)
    · rw [if_neg c1] at h
      refine J_aload_n (i := 0) 0 22 dX4_init_21 rfl rfl rfl ?_
      obtain ⟨v2, hv2, h⟩ := some_of_bind h
      refine J_gR 25 dX4_init_22 rfl fk_x_217 hv2 ?_
      refine J_iload_n (i := 1) 1 26 dX4_init_25 rfl rfl rfl ?_
      refine J_new (c9 := 2) (nsl := 3) rfl (by decide) (by decide +kernel) q328 q223 q133 29 dX4_init_26 rfl ?_
      refine J_dupr 30 dX4_init_29 rfl ?_
      obtain ⟨b4, hb4, h⟩ := some_of_bind h
      obtain ⟨q3, hq3, h⟩ := some_of_bind h
      refine J_cI 33 dX4_init_30 rfl ykX2_init rfl (Or.inl q330) q225 rfl (Nat.le_of_ble_eq_true rfl) (cs_rf (cs_int (cs_rf cs_nil))) (by decide) [] hb4 rfl rfl (sX2_init hγ (some (hsz σ))  (wN σ 2 0 3) q3 hq3) ?_
      obtain ⟨σ5, hσ5, h⟩ := some_of_bind h
      refine J_aast 8 (by decide) (by decide) 34 dX4_init_33 rfl hσ5 ?_
      refine J_iinc (i := 1) (v := l1 + (1 : Int32)) 1 37 [(1, 1, .int (l1 + (1 : Int32))), (0, 1, va_rf l0)] dX4_init_34 rfl rfl (Nat.le_of_ble_eq_true rfl) (by rw [kic_1]) rfl ?_
      refine J_goto 15 dX4_init_37 (by decide) ?_
      refine J.pick [1, 0] rfl ?_
      exact ih (l1 + (1 : Int32)) σ5 h
def X4_init (l0 : Option Nat) (σ : Hp) : Option Hp :=
  l0.bind fun b1 =>
  (nA 8 σ (16 : Int32)).bind fun σ2 =>
  (pR σ2 l0 [4] 0 (some (hsz σ))).bind fun σ3 =>
  X4_init_c15 l0  FUEL (0 : Int32) σ3
set_option maxHeartbeats 4000000 in
theorem sX4_init {γ : GP} (hγ : GOK γ) (l0 : Option Nat) (σ : Hp) (q : Hp) (h : X4_init l0 σ = some q) : Rn γ mX4_init yX4_init [va_rf l0] (σ, .inr none, q) := by
  refine J_m hγ ykX4_init rfl [(1, va_rf l0)] (cats_r cats_nil) (Nat.le_of_ble_eq_true rfl) ?_
  show J γ mX4_init _ σ 0 [(0, 1, va_rf l0)] []
  unfold X4_init at h
  refine J_aload_n (i := 0) 0 1 dX4_init_0 rfl rfl rfl ?_
  obtain ⟨b1, hb1, h⟩ := some_of_bind h
  refine J_oI hb1 q327 (Nat.le_of_ble_eq_true rfl) cs_nil (by decide) 4 dX4_init_1 rfl ?_
  refine J_aload_n (i := 0) 0 5 dX4_init_4 rfl rfl rfl ?_
  refine J_bipush 7 dX4_init_5 rfl (16 : Int32) kbp_16 ?_
  obtain ⟨σ2, hσ2, h⟩ := some_of_bind h
  refine J_anew 8 (by decide) (by decide) rfl q328 q329 10 dX4_init_7 rfl hσ2 ?_
  obtain ⟨σ3, hσ3, h⟩ := some_of_bind h
  refine J_pR rfl 13 dX4_init_10 rfl pk_x_221 hσ3 ?_
  refine J_ic 14 dX4_init_13 rfl (0 : Int32) kic_0 ?_
  refine J_istore_n (i := 1) 15 [(1, 1, .int (0 : Int32)), (0, 1, va_rf l0)] dX4_init_14 rfl rfl (Nat.le_of_ble_eq_true rfl) rfl ?_
  refine J.pick [1, 0] rfl ?_
  refine jX4_init_c15 hγ l0  FUEL (0 : Int32) σ3 h
