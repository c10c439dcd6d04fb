set_option maxRecDepth 100000
abbrev mJ0_init : MP := (cJ0_init, "java/util/AbstractCollection", 1, (Option.none : Option FieldType), 1, "<init>", [])
theorem ykJ0_init : YK yJ0_init mJ0_init 0 := ⟨q204, q130, ⟨by decide, by decide⟩, by decide +kernel, Nat.le_of_ble_eq_true rfl, by decide, rfl, rfl⟩
def J0_init (l0 : Option Nat) (σ : Hp) : Option Hp :=
  l0.bind fun b1 =>
  some σ
set_option maxHeartbeats 4000000 in
theorem sJ0_init {γ : GP} (hγ : GOK γ) (l0 : Option Nat) (σ : Hp) (q : Hp) (h : J0_init l0 σ = some q) : Rn γ mJ0_init yJ0_init [va_rf l0] (σ, .inr none, q) := by
  refine J_m hγ ykJ0_init rfl [(1, va_rf l0)] (cats_r cats_nil) (Nat.le_of_ble_eq_true rfl) ?_
  show J γ mJ0_init _ σ 0 [(0, 1, va_rf l0)] []
  unfold J0_init at h
  refine J_aload_n (i := 0) 0 1 dJ0_init_0 rfl rfl rfl ?_
  obtain ⟨b1, hb1, h⟩ := some_of_bind h
  refine J_oI hb1 q205 (Nat.le_of_ble_eq_true rfl) cs_nil (by decide) 4 dJ0_init_1 rfl ?_
  exact J_vret rfl dJ0_init_4 (retV h)
abbrev mJ1_init : MP := (cJ1_init, "java/util/AbstractList", 1, (Option.none : Option FieldType), 2, "<init>", [])
theorem ykJ1_init : YK yJ1_init mJ1_init 0 := ⟨q201, q131, ⟨by decide, by decide⟩, by decide +kernel, Nat.le_of_ble_eq_true rfl, by decide, rfl, rfl⟩
theorem pk_l_222 {nm9 : String} : POK "java/util/AbstractList" nm9 7 [31] 0 .int := POK.one (by decide) rfl (Nat.le_of_ble_eq_true rfl) (Or.inl ⟨_, q210, Or.inl rfl⟩) rfl (by decide +kernel) (Or.inl rfl)
def J1_init (l0 : Option Nat) (σ : Hp) : Option Hp :=
  l0.bind fun b2 =>
  (J0_init l0  σ).bind fun q1 =>
  (pI q1 l0 [31] 0 (0 : Int32)).bind fun σ3 =>
  some σ3
set_option maxHeartbeats 4000000 in
theorem sJ1_init {γ : GP} (hγ : GOK γ) (l0 : Option Nat) (σ : Hp) (q : Hp) (h : J1_init l0 σ = some q) : Rn γ mJ1_init yJ1_init [va_rf l0] (σ, .inr none, q) := by
  refine J_m hγ ykJ1_init rfl [(1, va_rf l0)] (cats_r cats_nil) (Nat.le_of_ble_eq_true rfl) ?_
  show J γ mJ1_init _ σ 0 [(0, 1, va_rf l0)] []
  unfold J1_init at h
  refine J_aload_n (i := 0) 0 1 dJ1_init_0 rfl rfl rfl ?_
  obtain ⟨b2, hb2, h⟩ := some_of_bind h
  obtain ⟨q1, hq1, h⟩ := some_of_bind h
  refine J_cI 4 dJ1_init_1 rfl ykJ0_init rfl (Or.inl q202) q203 rfl (Nat.le_of_ble_eq_true rfl) cs_nil (by decide) [] hb2 rfl rfl (sJ0_init hγ l0  σ q1 hq1) ?_
  refine J_aload_n (i := 0) 0 5 dJ1_init_4 rfl rfl rfl ?_
  refine J_ic 6 dJ1_init_5 rfl (0 : Int32) kic_0 ?_
  obtain ⟨σ3, hσ3, h⟩ := some_of_bind h
  refine J_pI 9 dJ1_init_6 rfl pk_l_222 hσ3 ?_
  exact J_vret rfl dJ1_init_9 (retV h)
abbrev mJ2_init : MP := (cJ2_init, "java/util/ArrayList", 1, (Option.none : Option FieldType), 3, "<init>", [])
theorem ykJ2_init : YK yJ2_init mJ2_init 0 := ⟨q198, q132, ⟨by decide, by decide⟩, by decide +kernel, Nat.le_of_ble_eq_true rfl, by decide, rfl, rfl⟩
theorem pk_l_223 {nm9 : String} : POK "java/util/ArrayList" nm9 9 [31] 1 (.array (.object "java/lang/Object")) := POK.one (by decide) rfl (Nat.le_of_ble_eq_true rfl) (Or.inl ⟨_, q208, Or.inl rfl⟩) rfl (by decide +kernel) (Or.inl rfl)
def J2_init (l0 : Option Nat) (σ : Hp) : Option Hp :=
  l0.bind fun b2 =>
  (J1_init l0  σ).bind fun q1 =>
  (pR q1 l0 [31] 1 (hst q1 0)).bind fun σ3 =>
  some σ3
set_option maxHeartbeats 4000000 in
theorem sJ2_init {γ : GP} (hγ : GOK γ) (l0 : Option Nat) (σ : Hp) (q : Hp) (h : J2_init l0 σ = some q) : Rn γ mJ2_init yJ2_init [va_rf l0] (σ, .inr none, q) := by
  refine J_m hγ ykJ2_init rfl [(1, va_rf l0)] (cats_r cats_nil) (Nat.le_of_ble_eq_true rfl) ?_
  show J γ mJ2_init _ σ 0 [(0, 1, va_rf l0)] []
  unfold J2_init at h
  refine J_aload_n (i := 0) 0 1 dJ2_init_0 rfl rfl rfl ?_
  obtain ⟨b2, hb2, h⟩ := some_of_bind h
  obtain ⟨q1, hq1, h⟩ := some_of_bind h
  refine J_cI 4 dJ2_init_1 rfl ykJ1_init rfl (Or.inl q199) q200 rfl (Nat.le_of_ble_eq_true rfl) cs_nil (by decide) [] hb2 rfl rfl (sJ1_init hγ l0  σ q1 hq1) ?_
  refine J_aload_n (i := 0) 0 5 dJ2_init_4 rfl rfl rfl ?_
  refine J_gets (k := 0) (by decide) q206 8 dJ2_init_5 rfl ?_
  obtain ⟨σ3, hσ3, h⟩ := some_of_bind h
  refine J_pR rfl 11 dJ2_init_8 rfl pk_l_223 hσ3 ?_
  exact J_vret rfl dJ2_init_11 (retV h)
abbrev mJ2_size : MP := (cJ2_size, "java/util/ArrayList", 1, (Option.some FieldType.int), 0, "size", [])
theorem ykJ2_size : YK yJ2_size mJ2_size 0 := ⟨q1049, q132, ⟨by decide, by decide⟩, by decide +kernel, Nat.le_of_ble_eq_true rfl, by decide, rfl, rfl⟩
theorem fk_l_224 : FOK "java/util/ArrayList" 48 [31] 2 isI := FOK.one (by decide) rfl (Nat.le_of_ble_eq_true rfl) (Or.inl ⟨_, q209, Or.inl rfl⟩) rfl
def J2_size (l0 : Option Nat) (σ : Hp) : Option (Int32 × Hp) :=
  (gI σ l0 [31] 2).bind fun v1 =>
  some (v1, σ)
set_option maxHeartbeats 4000000 in
theorem sJ2_size {γ : GP} (hγ : GOK γ) (l0 : Option Nat) (σ : Hp) (q : (Int32 × Hp)) (h : J2_size l0 σ = some q) : Rn γ mJ2_size yJ2_size [va_rf l0] (σ, .inr (some (.int q.1)), q.2) := by
  refine J_m hγ ykJ2_size rfl [(1, va_rf l0)] (cats_r cats_nil) (Nat.le_of_ble_eq_true rfl) ?_
  show J γ mJ2_size _ σ 0 [(0, 1, va_rf l0)] []
  unfold J2_size at h
  refine J_aload_n (i := 0) 0 1 dJ2_size_0 rfl rfl rfl ?_
  obtain ⟨v1, hv1, h⟩ := some_of_bind h
  refine J_gI 4 dJ2_size_1 rfl fk_l_224 hv1 ?_
  exact J_iret rfl dJ2_size_4 (retI h)
abbrev mJ4_checkIndex : MP := (cJ4_checkIndex, "jdk/internal/util/Preconditions", 3, (Option.some FieldType.int), 1, "checkIndex", [])
theorem ykJ4_checkIndex : YK yJ4_checkIndex mJ4_checkIndex 3 := ⟨q556, q140, ⟨by decide, by decide⟩, by decide +kernel, Nat.le_of_ble_eq_true rfl, by decide, rfl, rfl⟩
def J4_checkIndex_c9  (l0 : Int32) (l1 : Int32) (l2 : Option Nat)  (σ : Hp) : Option (Int32 × Hp) :=
  none
set_option maxHeartbeats 4000000 in
theorem jJ4_checkIndex_c9 {γ : GP} {σ0 : Hp} {q : (Int32 × Hp)} (hγ : GOK γ) (l0 : Int32) (l1 : Int32) (l2 : Option Nat)   (σ : Hp) (h : J4_checkIndex_c9 l0 l1 l2 σ = some q) : J γ mJ4_checkIndex (σ0, .inr (some (.int q.1)), q.2) σ 9 [(0, 1, .int l0), (1, 1, .int l1), (2, 1, va_rf l2)] [] := by
  unfold J4_checkIndex_c9 at h
  refine J_aload_n (i := 2) 2 10 dJ4_checkIndex_9 rfl rfl rfl ?_
  refine J_iload_n (i := 0) 0 11 dJ4_checkIndex_10 rfl rfl rfl ?_
  refine J_iload_n (i := 1) 1 12 dJ4_checkIndex_11 rfl rfl rfl ?_
  cases h
def J4_checkIndex (l0 : Int32) (l1 : Int32) (l2 : Option Nat) (σ : Hp) : Option (Int32 × Hp) :=
  if l0 < 0 then
    J4_checkIndex_c9  l0 l1 l2  σ
  else
    if l0 < l1 then
      some (l0, σ)
    else
      J4_checkIndex_c9  l0 l1 l2  σ
set_option maxHeartbeats 4000000 in
theorem sJ4_checkIndex {γ : GP} (hγ : GOK γ) (l0 : Int32) (l1 : Int32) (l2 : Option Nat) (σ : Hp) (q : (Int32 × Hp)) (h : J4_checkIndex l0 l1 l2 σ = some q) : Rn γ mJ4_checkIndex yJ4_checkIndex [.int l0, .int l1, va_rf l2] (σ, .inr (some (.int q.1)), q.2) := by
  refine J_m hγ ykJ4_checkIndex rfl [(1, .int l0), (1, .int l1), (1, va_rf l2)] (cats_i (cats_i (cats_r cats_nil))) (Nat.le_of_ble_eq_true rfl) ?_
  show J γ mJ4_checkIndex _ σ 0 [(0, 1, .int l0), (1, 1, .int l1), (2, 1, va_rf l2)] []
  unfold J4_checkIndex at h
  refine J_iload_n (i := 0) 0 1 dJ4_checkIndex_0 rfl rfl rfl ?_
  refine J_if_lt 9 4 dJ4_checkIndex_1 (by decide) rfl (fun c1 => ?_) (fun c1 => ?_)
  · rw [if_pos c1] at h
    exact jJ4_checkIndex_c9 hγ l0 l1 l2  σ h
  · rw [if_neg c1] at h
    refine J_iload_n (i := 0) 0 5 dJ4_checkIndex_4 rfl rfl rfl ?_
    refine J_iload_n (i := 1) 1 6 dJ4_checkIndex_5 rfl rfl rfl ?_
    refine J_icmp_lt 16 9 dJ4_checkIndex_6 (by decide) rfl (fun c2 => ?_) (fun c2 => ?_)
    · rw [if_pos c2] at h
      refine J_iload_n (i := 0) 0 17 dJ4_checkIndex_16 rfl rfl rfl ?_
      exact J_iret rfl dJ4_checkIndex_17 (retI h)
    · rw [if_neg c2] at h
      exact jJ4_checkIndex_c9 hγ l0 l1 l2  σ h
abbrev mJ3_checkIndex : MP := (cJ3_checkIndex, "java/util/Objects", 2, (Option.some FieldType.int), 2, "checkIndex", [])
theorem ykJ3_checkIndex : YK yJ3_checkIndex mJ3_checkIndex 2 := ⟨q553, q139, ⟨by decide, by decide⟩, by decide +kernel, Nat.le_of_ble_eq_true rfl, by decide, rfl, rfl⟩
def J3_checkIndex (l0 : Int32) (l1 : Int32) (σ : Hp) : Option (Int32 × Hp) :=
  (J4_checkIndex l0 l1 none σ).bind fun q1 =>
  some (q1.1, q1.2)
set_option maxHeartbeats 4000000 in
theorem sJ3_checkIndex {γ : GP} (hγ : GOK γ) (l0 : Int32) (l1 : Int32) (σ : Hp) (q : (Int32 × Hp)) (h : J3_checkIndex l0 l1 σ = some q) : Rn γ mJ3_checkIndex yJ3_checkIndex [.int l0, .int l1] (σ, .inr (some (.int q.1)), q.2) := by
  refine J_m hγ ykJ3_checkIndex rfl [(1, .int l0), (1, .int l1)] (cats_i (cats_i cats_nil)) (Nat.le_of_ble_eq_true rfl) ?_
  show J γ mJ3_checkIndex _ σ 0 [(0, 1, .int l0), (1, 1, .int l1)] []
  unfold J3_checkIndex at h
  refine J_iload_n (i := 0) 0 1 dJ3_checkIndex_0 rfl rfl rfl ?_
  refine J_iload_n (i := 1) 1 2 dJ3_checkIndex_1 rfl rfl rfl ?_
  refine J_null 3 dJ3_checkIndex_2 rfl ?_
  obtain ⟨q1, hq1, h⟩ := some_of_bind h
  refine J_cSi 6 dJ3_checkIndex_3 rfl ykJ4_checkIndex (Or.inl q554) q555 (Nat.le_of_ble_eq_true rfl) cs_nil (by decide) [.int l0, .int l1, va_rf none] rfl rfl (sJ4_checkIndex hγ l0 l1 none σ q1 hq1) ?_
  exact J_iret rfl dJ3_checkIndex_6 (retI h)
abbrev mJ2_elementData : MP := (cJ2_elementData, "java/util/ArrayList", 2, (Option.some (FieldType.object "java/lang/Object")), 0, "elementData", [])
theorem ykJ2_elementData : YK yJ2_elementData mJ2_elementData 1 := ⟨q560, q132, ⟨by decide, by decide⟩, by decide +kernel, Nat.le_of_ble_eq_true rfl, by decide, rfl, rfl⟩
theorem fk_l_225 : FOK "java/util/ArrayList" 9 [31] 1 isR := FOK.one (by decide) rfl (Nat.le_of_ble_eq_true rfl) (Or.inl ⟨_, q208, Or.inl rfl⟩) rfl
def J2_elementData (l0 : Option Nat) (l1 : Int32) (σ : Hp) : Option (Option Nat × Hp) :=
  (gR σ l0 [31] 1).bind fun v1 =>
  (aR 15 σ v1 l1).bind fun v2 =>
  some (v2, σ)
set_option maxHeartbeats 4000000 in
theorem sJ2_elementData {γ : GP} (hγ : GOK γ) (l0 : Option Nat) (l1 : Int32) (σ : Hp) (q : (Option Nat × Hp)) (h : J2_elementData l0 l1 σ = some q) : Rn γ mJ2_elementData yJ2_elementData [va_rf l0, .int l1] (σ, .inr (some (va_rf q.1)), q.2) := by
  refine J_m hγ ykJ2_elementData rfl [(1, va_rf l0), (1, .int l1)] (cats_r (cats_i cats_nil)) (Nat.le_of_ble_eq_true rfl) ?_
  show J γ mJ2_elementData _ σ 0 [(0, 1, va_rf l0), (1, 1, .int l1)] []
  unfold J2_elementData at h
  refine J_aload_n (i := 0) 0 1 dJ2_elementData_0 rfl rfl rfl ?_
  obtain ⟨v1, hv1, h⟩ := some_of_bind h
  refine J_gR 4 dJ2_elementData_1 rfl fk_l_225 hv1 ?_
  refine J_iload_n (i := 1) 1 5 dJ2_elementData_4 rfl rfl rfl ?_
  obtain ⟨v2, hv2, h⟩ := some_of_bind h
  refine J_aald 15 (by decide) (by decide) rfl 6 dJ2_elementData_5 rfl hv2 ?_
  exact J_aret rfl (Or.inl ⟨_, rfl⟩) dJ2_elementData_6 (retR h)
abbrev mJ2_get : MP := (cJ2_get, "java/util/ArrayList", 2, (Option.some (FieldType.object "java/lang/Object")), 3, "get", [])
theorem ykJ2_get : YK yJ2_get mJ2_get 1 := ⟨q550, q132, ⟨by decide, by decide⟩, by decide +kernel, Nat.le_of_ble_eq_true rfl, by decide, rfl, rfl⟩
def J2_get (l0 : Option Nat) (l1 : Int32) (σ : Hp) : Option (Option Nat × Hp) :=
  (gI σ l0 [31] 2).bind fun v1 =>
  (J3_checkIndex l1 v1 σ).bind fun q2 =>
  (cT q2.2 l0 31).bind fun b4 =>
  (J2_elementData l0 l1 q2.2).bind fun q3 =>
  some (q3.1, q3.2)
set_option maxHeartbeats 4000000 in
theorem sJ2_get {γ : GP} (hγ : GOK γ) (l0 : Option Nat) (l1 : Int32) (σ : Hp) (q : (Option Nat × Hp)) (h : J2_get l0 l1 σ = some q) : Rn γ mJ2_get yJ2_get [va_rf l0, .int l1] (σ, .inr (some (va_rf q.1)), q.2) := by
  refine J_m hγ ykJ2_get rfl [(1, va_rf l0), (1, .int l1)] (cats_r (cats_i cats_nil)) (Nat.le_of_ble_eq_true rfl) ?_
  show J γ mJ2_get _ σ 0 [(0, 1, va_rf l0), (1, 1, .int l1)] []
  unfold J2_get at h
  refine J_iload_n (i := 1) 1 1 dJ2_get_0 rfl rfl rfl ?_
  refine J_aload_n (i := 0) 0 2 dJ2_get_1 rfl rfl rfl ?_
  obtain ⟨v1, hv1, h⟩ := some_of_bind h
  refine J_gI 5 dJ2_get_2 rfl fk_l_224 hv1 ?_
  obtain ⟨q2, hq2, h⟩ := some_of_bind h
  refine J_cSi 8 dJ2_get_5 rfl ykJ3_checkIndex (Or.inl q551) q552 (Nat.le_of_ble_eq_true rfl) cs_nil (by decide) [.int l1, .int v1] rfl rfl (sJ3_checkIndex hγ l1 v1 σ q2 hq2) ?_
  refine J_popi 9 dJ2_get_8 rfl ?_
  refine J_aload_n (i := 0) 0 10 dJ2_get_9 rfl rfl rfl ?_
  refine J_iload_n (i := 1) 1 11 dJ2_get_10 rfl rfl rfl ?_
  obtain ⟨b4, hb4, h⟩ := some_of_bind h
  obtain ⟨q3, hq3, h⟩ := some_of_bind h
  refine J_cVr 14 dJ2_get_11 rfl ykJ2_elementData (Or.inl q557) q558 q559 (Nat.le_of_ble_eq_true rfl) cs_nil (by decide) [.int l1] hb4 (by decide) rfl rfl rfl (sJ2_elementData hγ l0 l1 q2.2 q3 hq3) ?_
  exact J_aret rfl (Or.inl ⟨_, rfl⟩) dJ2_get_14 (retR h)
abbrev mJ6_copyOf_3 : MP := (cJ6_copyOf_3, "java/util/Arrays", 4, (Option.some (FieldType.array (FieldType.object "java/lang/Object"))), 1, "copyOf", [])
theorem ykJ6_copyOf_3 : YK yJ6_copyOf_3 mJ6_copyOf_3 3 := ⟨q1554, q142, ⟨by decide, by decide⟩, by decide +kernel, Nat.le_of_ble_eq_true rfl, by decide, rfl, rfl⟩
def J6_copyOf_3 (l0 : Option Nat) (l1 : Int32) (l2 : Option Nat) (σ : Hp) : Option (Option Nat × Hp) :=
  if l2 = (hst σ 6) then
    (nA 15 σ l1).bind fun σ2 =>
    (aN σ2 l0).bind fun v3 =>
    (cpR 15 15 σ2 l0 (0 : Int32) (some (hsz σ)) (0 : Int32) (imin v3 l1)).bind fun σ4 =>
    some ((some (hsz σ)), σ4)
  else
    none
set_option maxHeartbeats 4000000 in
theorem sJ6_copyOf_3 {γ : GP} (hγ : GOK γ) (l0 : Option Nat) (l1 : Int32) (l2 : Option Nat) (σ : Hp) (q : (Option Nat × Hp)) (h : J6_copyOf_3 l0 l1 l2 σ = some q) : Rn γ mJ6_copyOf_3 yJ6_copyOf_3 [va_rf l0, .int l1, va_rf l2] (σ, .inr (some (va_rf q.1)), q.2) := by
  refine J_m hγ ykJ6_copyOf_3 rfl [(1, va_rf l0), (1, .int l1), (1, va_rf l2)] (cats_r (cats_i (cats_r cats_nil))) (Nat.le_of_ble_eq_true rfl) ?_
  show J γ mJ6_copyOf_3 _ σ 0 [(0, 1, va_rf l0), (1, 1, .int l1), (2, 1, va_rf l2)] []
  unfold J6_copyOf_3 at h
  refine J_aload_n (i := 2) 2 1 dJ6_copyOf_3_0 rfl rfl rfl ?_
  refine J_ldcM q1555 3 dJ6_copyOf_3_1 rfl ?_
  refine J_acmp_ne 13 6 dJ6_copyOf_3_3 (by decide) rfl (fun c1 => ?_) (fun c1 => ?_)
  · rw [if_neg c1] at h
    refine J_aload_n (i := 2) 2 14 dJ6_copyOf_3_13 rfl rfl rfl ?_
    cases h
  · rw [if_pos c1] at h
    refine J_iload_n (i := 1) 1 7 dJ6_copyOf_3_6 rfl rfl rfl ?_
    obtain ⟨σ2, hσ2, h⟩ := some_of_bind h
    refine J_anew 15 (by decide) (by decide) rfl q1557 q1556 10 dJ6_copyOf_3_7 rfl hσ2 ?_
    refine J_goto 24 dJ6_copyOf_3_10 (by decide) ?_
    refine J_astore_n (i := 3) 25 [(3, 1, va_rf (some (hsz σ))), (0, 1, va_rf l0), (1, 1, .int l1), (2, 1, va_rf l2)] dJ6_copyOf_3_24 rfl rfl (Nat.le_of_ble_eq_true rfl) rfl ?_
    refine J_aload_n (i := 0) 1 26 dJ6_copyOf_3_25 rfl rfl rfl ?_
    refine J_ic 27 dJ6_copyOf_3_26 rfl (0 : Int32) kic_0 ?_
    refine J_aload_n (i := 3) 0 28 dJ6_copyOf_3_27 rfl rfl rfl ?_
    refine J_ic 29 dJ6_copyOf_3_28 rfl (0 : Int32) kic_0 ?_
    refine J_aload_n (i := 0) 1 30 dJ6_copyOf_3_29 rfl rfl rfl ?_
    obtain ⟨v3, hv3, h⟩ := some_of_bind h
    refine J_alen 31 dJ6_copyOf_3_30 rfl hv3 ?_
    refine J_iload_n (i := 1) 2 32 dJ6_copyOf_3_31 rfl rfl rfl ?_
    refine J_mminI q849 (Nat.le_of_ble_eq_true rfl) (cs_int (cs_rf (cs_int (cs_rf cs_nil)))) (by decide) 35 dJ6_copyOf_3_32 rfl ?_
    obtain ⟨σ4, hσ4, h⟩ := some_of_bind h
    refine J_cpR 15 15 (by decide) (by decide) (by decide) (by decide) q850 (Nat.le_of_ble_eq_true rfl) cs_nil (by decide) 38 dJ6_copyOf_3_35 rfl hσ4 ?_
    refine J_aload_n (i := 3) 0 39 dJ6_copyOf_3_38 rfl rfl rfl ?_
    exact J_aret rfl (Or.inr ⟨_, rfl⟩) dJ6_copyOf_3_39 (retR h)
abbrev mJ6_copyOf_2 : MP := (cJ6_copyOf_2, "java/util/Arrays", 2, (Option.some (FieldType.array (FieldType.object "java/lang/Object"))), 2, "copyOf", [])
theorem ykJ6_copyOf_2 : YK yJ6_copyOf_2 mJ6_copyOf_2 2 := ⟨q1515, q142, ⟨by decide, by decide⟩, by decide +kernel, Nat.le_of_ble_eq_true rfl, by decide, rfl, rfl⟩
def J6_copyOf_2 (l0 : Option Nat) (l1 : Int32) (σ : Hp) : Option (Option Nat × Hp) :=
  (cT σ l0 115).bind fun b1 =>
  (J6_copyOf_3 l0 l1 (hst σ 6) σ).bind fun q2 =>
  some (q2.1, q2.2)
set_option maxHeartbeats 4000000 in
theorem sJ6_copyOf_2 {γ : GP} (hγ : GOK γ) (l0 : Option Nat) (l1 : Int32) (σ : Hp) (q : (Option Nat × Hp)) (h : J6_copyOf_2 l0 l1 σ = some q) : Rn γ mJ6_copyOf_2 yJ6_copyOf_2 [va_rf l0, .int l1] (σ, .inr (some (va_rf q.1)), q.2) := by
  refine J_m hγ ykJ6_copyOf_2 rfl [(1, va_rf l0), (1, .int l1)] (cats_r (cats_i cats_nil)) (Nat.le_of_ble_eq_true rfl) ?_
  show J γ mJ6_copyOf_2 _ σ 0 [(0, 1, va_rf l0), (1, 1, .int l1)] []
  unfold J6_copyOf_2 at h
  refine J_aload_n (i := 0) 0 1 dJ6_copyOf_2_0 rfl rfl rfl ?_
  refine J_iload_n (i := 1) 1 2 dJ6_copyOf_2_1 rfl rfl rfl ?_
  refine J_aload_n (i := 0) 0 3 dJ6_copyOf_2_2 rfl rfl rfl ?_
  obtain ⟨b1, hb1, h⟩ := some_of_bind h
  refine J_getC hb1 q1516 (Nat.le_of_ble_eq_true rfl) (cs_int (cs_rf cs_nil)) (by decide) 6 dJ6_copyOf_2_3 rfl ?_
  obtain ⟨q2, hq2, h⟩ := some_of_bind h
  refine J_cSr 9 dJ6_copyOf_2_6 rfl ykJ6_copyOf_3 (Or.inl q1552) q1553 (Nat.le_of_ble_eq_true rfl) cs_nil (by decide) [va_rf l0, .int l1, va_rf (hst σ 6)] rfl rfl (sJ6_copyOf_3 hγ l0 l1 (hst σ 6) σ q2 hq2) ?_
  exact J_aret rfl (Or.inr ⟨_, rfl⟩) dJ6_copyOf_2_9 (retR h)
abbrev mJ2_toArray : MP := (cJ2_toArray, "java/util/ArrayList", 1, (Option.some (FieldType.array (FieldType.object "java/lang/Object"))), 3, "toArray", [])
theorem ykJ2_toArray : YK yJ2_toArray mJ2_toArray 0 := ⟨q2178, q132, ⟨by decide, by decide⟩, by decide +kernel, Nat.le_of_ble_eq_true rfl, by decide, rfl, rfl⟩
def J2_toArray (l0 : Option Nat) (σ : Hp) : Option (Option Nat × Hp) :=
  (gR σ l0 [31] 1).bind fun v1 =>
  (gI σ l0 [31] 2).bind fun v2 =>
  (J6_copyOf_2 v1 v2 σ).bind fun q3 =>
  some (q3.1, q3.2)
set_option maxHeartbeats 4000000 in
theorem sJ2_toArray {γ : GP} (hγ : GOK γ) (l0 : Option Nat) (σ : Hp) (q : (Option Nat × Hp)) (h : J2_toArray l0 σ = some q) : Rn γ mJ2_toArray yJ2_toArray [va_rf l0] (σ, .inr (some (va_rf q.1)), q.2) := by
  refine J_m hγ ykJ2_toArray rfl [(1, va_rf l0)] (cats_r cats_nil) (Nat.le_of_ble_eq_true rfl) ?_
  show J γ mJ2_toArray _ σ 0 [(0, 1, va_rf l0)] []
  unfold J2_toArray at h
  refine J_aload_n (i := 0) 0 1 dJ2_toArray_0 rfl rfl rfl ?_
  obtain ⟨v1, hv1, h⟩ := some_of_bind h
  refine J_gR 4 dJ2_toArray_1 rfl fk_l_225 hv1 ?_
  refine J_aload_n (i := 0) 0 5 dJ2_toArray_4 rfl rfl rfl ?_
  obtain ⟨v2, hv2, h⟩ := some_of_bind h
  refine J_gI 8 dJ2_toArray_5 rfl fk_l_224 hv2 ?_
  obtain ⟨q3, hq3, h⟩ := some_of_bind h
  refine J_cSr 11 dJ2_toArray_8 rfl ykJ6_copyOf_2 (Or.inl q1513) q1514 (Nat.le_of_ble_eq_true rfl) cs_nil (by decide) [va_rf v1, .int v2] rfl rfl (sJ6_copyOf_2 hγ v1 v2 σ q3 hq3) ?_
  exact J_aret rfl (Or.inr ⟨_, rfl⟩) dJ2_toArray_11 (retR h)
abbrev mJ16_hugeLength : MP := (cJ16_hugeLength, "jdk/internal/util/ArraysSupport", 3, (Option.some FieldType.int), 1, "hugeLength", [])
theorem ykJ16_hugeLength : YK yJ16_hugeLength mJ16_hugeLength 2 := ⟨q837, q153, ⟨by decide, by decide⟩, by decide +kernel, Nat.le_of_ble_eq_true rfl, by decide, rfl, rfl⟩
def J16_hugeLength (l0 : Int32) (l1 : Int32) (σ : Hp) : Option (Int32 × Hp) :=
  if 0 ≤ (l0 + l1) then
    if (2147483639 : Int32) < (l0 + l1) then
      some ((l0 + l1), σ)
    else
      some ((2147483639 : Int32), σ)
  else
    none
set_option maxHeartbeats 4000000 in
theorem sJ16_hugeLength {γ : GP} (hγ : GOK γ) (l0 : Int32) (l1 : Int32) (σ : Hp) (q : (Int32 × Hp)) (h : J16_hugeLength l0 l1 σ = some q) : Rn γ mJ16_hugeLength yJ16_hugeLength [.int l0, .int l1] (σ, .inr (some (.int q.1)), q.2) := by
  refine J_m hγ ykJ16_hugeLength rfl [(1, .int l0), (1, .int l1)] (cats_i (cats_i cats_nil)) (Nat.le_of_ble_eq_true rfl) ?_
  show J γ mJ16_hugeLength _ σ 0 [(0, 1, .int l0), (1, 1, .int l1)] []
  unfold J16_hugeLength at h
  refine J_iload_n (i := 0) 0 1 dJ16_hugeLength_0 rfl rfl rfl ?_
  refine J_iload_n (i := 1) 1 2 dJ16_hugeLength_1 rfl rfl rfl ?_
  refine J_iadd 3 dJ16_hugeLength_2 rfl ?_
  refine J_istore_n (i := 2) 4 [(2, 1, .int (l0 + l1)), (0, 1, .int l0), (1, 1, .int l1)] dJ16_hugeLength_3 rfl rfl (Nat.le_of_ble_eq_true rfl) rfl ?_
  refine J_iload_n (i := 2) 0 5 dJ16_hugeLength_4 rfl rfl rfl ?_
  refine J_if_ge 49 8 dJ16_hugeLength_5 (by decide) rfl (fun c1 => ?_) (fun c1 => ?_)
  · rw [if_pos c1] at h
    refine J_iload_n (i := 2) 0 50 dJ16_hugeLength_49 rfl rfl rfl ?_
    refine J_ldc (v := (2147483639 : Int32)) 52 dJ16_hugeLength_50 rfl q834 ?_
    refine J_icmp_gt 58 55 dJ16_hugeLength_52 (by decide) rfl (fun c2 => ?_) (fun c2 => ?_)
    · rw [if_pos c2] at h
      refine J_iload_n (i := 2) 0 59 dJ16_hugeLength_58 rfl rfl rfl ?_
      exact J_iret rfl dJ16_hugeLength_59 (retI h)
    · rw [if_neg c2] at h
      refine J_ldc (v := (2147483639 : Int32)) 57 dJ16_hugeLength_55 rfl q834 ?_
      exact J_iret rfl dJ16_hugeLength_57 (retI h)
  · rw [if_neg c1] at h
    cases h
abbrev mJ16_newLength : MP := (cJ16_newLength, "jdk/internal/util/ArraysSupport", 4, (Option.some FieldType.int), 2, "newLength", [])
theorem ykJ16_newLength : YK yJ16_newLength mJ16_newLength 3 := ⟨q832, q153, ⟨by decide, by decide⟩, by decide +kernel, Nat.le_of_ble_eq_true rfl, by decide, rfl, rfl⟩
def J16_newLength_c21  (l0 : Int32) (l1 : Int32)  (σ : Hp) : Option (Int32 × Hp) :=
  (J16_hugeLength l0 l1 σ).bind fun q1 =>
  some (q1.1, q1.2)
set_option maxHeartbeats 4000000 in
theorem jJ16_newLength_c21 {γ : GP} {σ0 : Hp} {q : (Int32 × Hp)} (hγ : GOK γ) (l0 : Int32) (l1 : Int32)   (σ : Hp) (h : J16_newLength_c21 l0 l1 σ = some q) : J γ mJ16_newLength (σ0, .inr (some (.int q.1)), q.2) σ 21 [(0, 1, .int l0), (1, 1, .int l1)] [] := by
  unfold J16_newLength_c21 at h
  refine J_iload_n (i := 0) 0 22 dJ16_newLength_21 rfl rfl rfl ?_
  refine J_iload_n (i := 1) 1 23 dJ16_newLength_22 rfl rfl rfl ?_
  obtain ⟨q1, hq1, h⟩ := some_of_bind h
  refine J_cSi 26 dJ16_newLength_23 rfl ykJ16_hugeLength (Or.inl q835) q836 (Nat.le_of_ble_eq_true rfl) cs_nil (by decide) [.int l0, .int l1] rfl rfl (sJ16_hugeLength hγ l0 l1 σ q1 hq1) ?_
  exact J_iret rfl dJ16_newLength_26 (retI h)
def J16_newLength (l0 : Int32) (l1 : Int32) (l2 : Int32) (σ : Hp) : Option (Int32 × Hp) :=
  if (l0 + (imax l1 l2)) ≤ (0 : Int32) then
    J16_newLength_c21  l0 l1  σ
  else
    if (2147483639 : Int32) < (l0 + (imax l1 l2)) then
      J16_newLength_c21  l0 l1  σ
    else
      some ((l0 + (imax l1 l2)), σ)
set_option maxHeartbeats 4000000 in
theorem sJ16_newLength {γ : GP} (hγ : GOK γ) (l0 : Int32) (l1 : Int32) (l2 : Int32) (σ : Hp) (q : (Int32 × Hp)) (h : J16_newLength l0 l1 l2 σ = some q) : Rn γ mJ16_newLength yJ16_newLength [.int l0, .int l1, .int l2] (σ, .inr (some (.int q.1)), q.2) := by
  refine J_m hγ ykJ16_newLength rfl [(1, .int l0), (1, .int l1), (1, .int l2)] (cats_i (cats_i (cats_i cats_nil))) (Nat.le_of_ble_eq_true rfl) ?_
  show J γ mJ16_newLength _ σ 0 [(0, 1, .int l0), (1, 1, .int l1), (2, 1, .int l2)] []
  unfold J16_newLength at h
  refine J_iload_n (i := 0) 0 1 dJ16_newLength_0 rfl rfl rfl ?_
  refine J_iload_n (i := 1) 1 2 dJ16_newLength_1 rfl rfl rfl ?_
  refine J_iload_n (i := 2) 2 3 dJ16_newLength_2 rfl rfl rfl ?_
  refine J_mmaxI q833 (Nat.le_of_ble_eq_true rfl) (cs_int cs_nil) (by decide) 6 dJ16_newLength_3 rfl ?_
  refine J_iadd 7 dJ16_newLength_6 rfl ?_
  refine J_istore_n (i := 3) 8 [(3, 1, .int (l0 + (imax l1 l2))), (0, 1, .int l0), (1, 1, .int l1), (2, 1, .int l2)] dJ16_newLength_7 rfl rfl (Nat.le_of_ble_eq_true rfl) rfl ?_
  refine J_ic 9 dJ16_newLength_8 rfl (0 : Int32) kic_0 ?_
  refine J_iload_n (i := 3) 0 10 dJ16_newLength_9 rfl rfl rfl ?_
  refine J_icmp_ge 21 13 dJ16_newLength_10 (by decide) rfl (fun c1 => ?_) (fun c1 => ?_)
  · rw [if_pos c1] at h
    refine J.pick [1, 2] rfl ?_
    exact jJ16_newLength_c21 hγ l0 l1  σ h
  · rw [if_neg c1] at h
    refine J_iload_n (i := 3) 0 14 dJ16_newLength_13 rfl rfl rfl ?_
    refine J_ldc (v := (2147483639 : Int32)) 16 dJ16_newLength_14 rfl q834 ?_
    refine J_icmp_gt 21 19 dJ16_newLength_16 (by decide) rfl (fun c2 => ?_) (fun c2 => ?_)
    · rw [if_pos c2] at h
      refine J.pick [1, 2] rfl ?_
      exact jJ16_newLength_c21 hγ l0 l1  σ h
    · rw [if_neg c2] at h
      refine J_iload_n (i := 3) 0 20 dJ16_newLength_19 rfl rfl rfl ?_
      exact J_iret rfl dJ16_newLength_20 (retI h)
abbrev mJ2_grow_2 : MP := (cJ2_grow_2, "java/util/ArrayList", 4, (Option.some (FieldType.array (FieldType.object "java/lang/Object"))), 3, "grow", [])
theorem ykJ2_grow_2 : YK yJ2_grow_2 mJ2_grow_2 1 := ⟨q1511, q132, ⟨by decide, by decide⟩, by decide +kernel, Nat.le_of_ble_eq_true rfl, by decide, rfl, rfl⟩
theorem pk_l_226 {nm9 : String} : POK "java/util/ArrayList" nm9 9 [31] 1 (.array (.object "java/lang/Object")) := POK.one (by decide) rfl (Nat.le_of_ble_eq_true rfl) (Or.inl ⟨_, q208, Or.inl rfl⟩) rfl (by decide +kernel) (Or.inl rfl)
def J2_grow_2_c20  (l0 : Option Nat) (l1 : Int32) (l2 : Int32)  (σ : Hp) : Option (Option Nat × Hp) :=
  (J16_newLength l2 (l1 - l2) (l2 >>> ((1 : Int32) &&& 31)) σ).bind fun q1 =>
  (gR q1.2 l0 [31] 1).bind fun v2 =>
  (J6_copyOf_2 v2 q1.1 q1.2).bind fun q3 =>
  (pR q3.2 l0 [31] 1 q3.1).bind fun σ4 =>
  some (q3.1, σ4)
set_option maxHeartbeats 4000000 in
theorem jJ2_grow_2_c20 {γ : GP} {σ0 : Hp} {q : (Option Nat × Hp)} (hγ : GOK γ) (l0 : Option Nat) (l1 : Int32) (l2 : Int32)   (σ : Hp) (h : J2_grow_2_c20 l0 l1 l2 σ = some q) : J γ mJ2_grow_2 (σ0, .inr (some (va_rf q.1)), q.2) σ 20 [(0, 1, va_rf l0), (1, 1, .int l1), (2, 1, .int l2)] [] := by
  unfold J2_grow_2_c20 at h
  refine J_iload_n (i := 2) 2 21 dJ2_grow_2_20 rfl rfl rfl ?_
  refine J_iload_n (i := 1) 1 22 dJ2_grow_2_21 rfl rfl rfl ?_
  refine J_iload_n (i := 2) 2 23 dJ2_grow_2_22 rfl rfl rfl ?_
  refine J_isub 24 dJ2_grow_2_23 rfl ?_
  refine J_iload_n (i := 2) 2 25 dJ2_grow_2_24 rfl rfl rfl ?_
  refine J_ic 26 dJ2_grow_2_25 rfl (1 : Int32) kic_1 ?_
  refine J_ishr 27 dJ2_grow_2_26 rfl ?_
  obtain ⟨q1, hq1, h⟩ := some_of_bind h
  refine J_cSi 30 dJ2_grow_2_27 rfl ykJ16_newLength (Or.inl q1512) q831 (Nat.le_of_ble_eq_true rfl) cs_nil (by decide) [.int l2, .int (l1 - l2), .int (l2 >>> ((1 : Int32) &&& 31))] rfl rfl (sJ16_newLength hγ l2 (l1 - l2) (l2 >>> ((1 : Int32) &&& 31)) σ q1 hq1) ?_
  refine J_istore_n (i := 3) 31 [(3, 1, .int q1.1), (0, 1, va_rf l0), (1, 1, .int l1), (2, 1, .int l2)] dJ2_grow_2_30 rfl rfl (Nat.le_of_ble_eq_true rfl) rfl ?_
  refine J_aload_n (i := 0) 1 32 dJ2_grow_2_31 rfl rfl rfl ?_
  refine J_aload_n (i := 0) 1 33 dJ2_grow_2_32 rfl rfl rfl ?_
  obtain ⟨v2, hv2, h⟩ := some_of_bind h
  refine J_gR 36 dJ2_grow_2_33 rfl fk_l_225 hv2 ?_
  refine J_iload_n (i := 3) 0 37 dJ2_grow_2_36 rfl rfl rfl ?_
  obtain ⟨q3, hq3, h⟩ := some_of_bind h
  refine J_cSr 40 dJ2_grow_2_37 rfl ykJ6_copyOf_2 (Or.inl q1513) q1514 (Nat.le_of_ble_eq_true rfl) (cs_rf cs_nil) (by decide) [va_rf v2, .int q1.1] rfl rfl (sJ6_copyOf_2 hγ v2 q1.1 q1.2 q3 hq3) ?_
  refine J_dup_x1rr 41 dJ2_grow_2_40 rfl ?_
  obtain ⟨σ4, hσ4, h⟩ := some_of_bind h
  refine J_pR rfl 44 dJ2_grow_2_41 rfl pk_l_226 hσ4 ?_
  exact J_aret rfl (Or.inr ⟨_, rfl⟩) dJ2_grow_2_44 (retR h)
def J2_grow_2 (l0 : Option Nat) (l1 : Int32) (σ : Hp) : Option (Option Nat × Hp) :=
  (gR σ l0 [31] 1).bind fun v1 =>
  (aN σ v1).bind fun v2 =>
  if 0 < v2 then
    J2_grow_2_c20  l0 l1 v2  σ
  else
    (gR σ l0 [31] 1).bind fun v4 =>
    if v4 = (hst σ 0) then
      (nA 15 σ (imax (10 : Int32) l1)).bind fun σ6 =>
      (pR σ6 l0 [31] 1 (some (hsz σ))).bind fun σ7 =>
      some ((some (hsz σ)), σ7)
    else
      J2_grow_2_c20  l0 l1 v2  σ
set_option maxHeartbeats 4000000 in
theorem sJ2_grow_2 {γ : GP} (hγ : GOK γ) (l0 : Option Nat) (l1 : Int32) (σ : Hp) (q : (Option Nat × Hp)) (h : J2_grow_2 l0 l1 σ = some q) : Rn γ mJ2_grow_2 yJ2_grow_2 [va_rf l0, .int l1] (σ, .inr (some (va_rf q.1)), q.2) := by
  refine J_m hγ ykJ2_grow_2 rfl [(1, va_rf l0), (1, .int l1)] (cats_r (cats_i cats_nil)) (Nat.le_of_ble_eq_true rfl) ?_
  show J γ mJ2_grow_2 _ σ 0 [(0, 1, va_rf l0), (1, 1, .int l1)] []
  unfold J2_grow_2 at h
  refine J_aload_n (i := 0) 0 1 dJ2_grow_2_0 rfl rfl rfl ?_
  obtain ⟨v1, hv1, h⟩ := some_of_bind h
  refine J_gR 4 dJ2_grow_2_1 rfl fk_l_225 hv1 ?_
  obtain ⟨v2, hv2, h⟩ := some_of_bind h
  refine J_alen 5 dJ2_grow_2_4 rfl hv2 ?_
  refine J_istore_n (i := 2) 6 [(2, 1, .int v2), (0, 1, va_rf l0), (1, 1, .int l1)] dJ2_grow_2_5 rfl rfl (Nat.le_of_ble_eq_true rfl) rfl ?_
  refine J_iload_n (i := 2) 0 7 dJ2_grow_2_6 rfl rfl rfl ?_
  refine J_if_gt 20 10 dJ2_grow_2_7 (by decide) rfl (fun c3 => ?_) (fun c3 => ?_)
  · rw [if_pos c3] at h
    refine J.pick [1, 2, 0] rfl ?_
    exact jJ2_grow_2_c20 hγ l0 l1 v2  σ h
  · rw [if_neg c3] at h
    refine J_aload_n (i := 0) 1 11 dJ2_grow_2_10 rfl rfl rfl ?_
    obtain ⟨v4, hv4, h⟩ := some_of_bind h
    refine J_gR 14 dJ2_grow_2_11 rfl fk_l_225 hv4 ?_
    refine J_gets (k := 0) (by decide) q206 17 dJ2_grow_2_14 rfl ?_
    refine J_acmp_eq 45 20 dJ2_grow_2_17 (by decide) rfl (fun c5 => ?_) (fun c5 => ?_)
    · rw [if_pos c5] at h
      refine J_aload_n (i := 0) 1 46 dJ2_grow_2_45 rfl rfl rfl ?_
      refine J_bipush 48 dJ2_grow_2_46 rfl (10 : Int32) kbp_10 ?_
      refine J_iload_n (i := 1) 2 49 dJ2_grow_2_48 rfl rfl rfl ?_
      refine J_mmaxI q1558 (Nat.le_of_ble_eq_true rfl) (cs_rf cs_nil) (by decide) 52 dJ2_grow_2_49 rfl ?_
      obtain ⟨σ6, hσ6, h⟩ := some_of_bind h
      refine J_anew 15 (by decide) (by decide) rfl q1559 q1556 55 dJ2_grow_2_52 rfl hσ6 ?_
      refine J_dup_x1rr 56 dJ2_grow_2_55 rfl ?_
      obtain ⟨σ7, hσ7, h⟩ := some_of_bind h
      refine J_pR rfl 59 dJ2_grow_2_56 rfl pk_l_226 hσ7 ?_
      exact J_aret rfl (Or.inr ⟨_, rfl⟩) dJ2_grow_2_59 (retR h)
    · rw [if_neg c5] at h
      refine J.pick [1, 2, 0] rfl ?_
      exact jJ2_grow_2_c20 hγ l0 l1 v2  σ h
abbrev mJ2_grow : MP := (cJ2_grow, "java/util/ArrayList", 1, (Option.some (FieldType.array (FieldType.object "java/lang/Object"))), 4, "grow", [])
theorem ykJ2_grow : YK yJ2_grow mJ2_grow 0 := ⟨q1507, q132, ⟨by decide, by decide⟩, by decide +kernel, Nat.le_of_ble_eq_true rfl, by decide, rfl, rfl⟩
def J2_grow (l0 : Option Nat) (σ : Hp) : Option (Option Nat × Hp) :=
  (gI σ l0 [31] 2).bind fun v1 =>
  (cT σ l0 31).bind fun b3 =>
  (J2_grow_2 l0 (v1 + (1 : Int32)) σ).bind fun q2 =>
  some (q2.1, q2.2)
set_option maxHeartbeats 4000000 in
theorem sJ2_grow {γ : GP} (hγ : GOK γ) (l0 : Option Nat) (σ : Hp) (q : (Option Nat × Hp)) (h : J2_grow l0 σ = some q) : Rn γ mJ2_grow yJ2_grow [va_rf l0] (σ, .inr (some (va_rf q.1)), q.2) := by
  refine J_m hγ ykJ2_grow rfl [(1, va_rf l0)] (cats_r cats_nil) (Nat.le_of_ble_eq_true rfl) ?_
  show J γ mJ2_grow _ σ 0 [(0, 1, va_rf l0)] []
  unfold J2_grow at h
  refine J_aload_n (i := 0) 0 1 dJ2_grow_0 rfl rfl rfl ?_
  refine J_aload_n (i := 0) 0 2 dJ2_grow_1 rfl rfl rfl ?_
  obtain ⟨v1, hv1, h⟩ := some_of_bind h
  refine J_gI 5 dJ2_grow_2 rfl fk_l_224 hv1 ?_
  refine J_ic 6 dJ2_grow_5 rfl (1 : Int32) kic_1 ?_
  refine J_iadd 7 dJ2_grow_6 rfl ?_
  obtain ⟨b3, hb3, h⟩ := some_of_bind h
  obtain ⟨q2, hq2, h⟩ := some_of_bind h
  refine J_cVr 10 dJ2_grow_7 rfl ykJ2_grow_2 (Or.inl q1508) q1510 qs20 (Nat.le_of_ble_eq_true rfl) cs_nil (by decide) [.int (v1 + (1 : Int32))] hb3 (by decide) rfl rfl rfl (sJ2_grow_2 hγ l0 (v1 + (1 : Int32)) σ q2 hq2) ?_
  exact J_aret rfl (Or.inr ⟨_, rfl⟩) dJ2_grow_10 (retR h)
abbrev mJ2_add_2 : MP := (cJ2_add_2, "java/util/ArrayList", 4, (Option.none : Option FieldType), 5, "add", [])
theorem ykJ2_add_2 : YK yJ2_add_2 mJ2_add_2 3 := ⟨q1503, q132, ⟨by decide, by decide⟩, by decide +kernel, Nat.le_of_ble_eq_true rfl, by decide, rfl, rfl⟩
theorem pk_l_227 {nm9 : String} : POK "java/util/ArrayList" nm9 48 [31] 2 .int := POK.one (by decide) rfl (Nat.le_of_ble_eq_true rfl) (Or.inl ⟨_, q209, Or.inl rfl⟩) rfl (by decide +kernel) (Or.inl rfl)
def J2_add_2_c11  (l0 : Option Nat) (l1 : Option Nat) (l2 : Option Nat) (l3 : Int32)  (σ : Hp) : Option Hp :=
  (sR 15 σ l2 l3 l1).bind fun σ1 =>
  (pI σ1 l0 [31] 2 (l3 + (1 : Int32))).bind fun σ2 =>
  some σ2
set_option maxHeartbeats 4000000 in
theorem jJ2_add_2_c11 {γ : GP} {σ0 : Hp} {q : Hp} (hγ : GOK γ) (l0 : Option Nat) (l1 : Option Nat) (l2 : Option Nat) (l3 : Int32)   (σ : Hp) (h : J2_add_2_c11 l0 l1 l2 l3 σ = some q) : J γ mJ2_add_2 (σ0, .inr none, q) σ 11 [(0, 1, va_rf l0), (1, 1, va_rf l1), (2, 1, va_rf l2), (3, 1, .int l3)] [] := by
  unfold J2_add_2_c11 at h
  refine J_aload_n (i := 2) 2 12 dJ2_add_2_11 rfl rfl rfl ?_
  refine J_iload_n (i := 3) 3 13 dJ2_add_2_12 rfl rfl rfl ?_
  refine J_aload_n (i := 1) 1 14 dJ2_add_2_13 rfl rfl rfl ?_
  obtain ⟨σ1, hσ1, h⟩ := some_of_bind h
  refine J_aast 15 (by decide) (by decide) 15 dJ2_add_2_14 rfl hσ1 ?_
  refine J_aload_n (i := 0) 0 16 dJ2_add_2_15 rfl rfl rfl ?_
  refine J_iload_n (i := 3) 3 17 dJ2_add_2_16 rfl rfl rfl ?_
  refine J_ic 18 dJ2_add_2_17 rfl (1 : Int32) kic_1 ?_
  refine J_iadd 19 dJ2_add_2_18 rfl ?_
  obtain ⟨σ2, hσ2, h⟩ := some_of_bind h
  refine J_pI 22 dJ2_add_2_19 rfl pk_l_227 hσ2 ?_
  exact J_vret rfl dJ2_add_2_22 (retV h)
def J2_add_2 (l0 : Option Nat) (l1 : Option Nat) (l2 : Option Nat) (l3 : Int32) (σ : Hp) : Option Hp :=
  (aN σ l2).bind fun v1 =>
  if l3 = v1 then
    (cT σ l0 31).bind fun b4 =>
    (J2_grow l0  σ).bind fun q3 =>
    J2_add_2_c11  l0 l1 q3.1 l3  q3.2
  else
    J2_add_2_c11  l0 l1 l2 l3  σ
set_option maxHeartbeats 4000000 in
theorem sJ2_add_2 {γ : GP} (hγ : GOK γ) (l0 : Option Nat) (l1 : Option Nat) (l2 : Option Nat) (l3 : Int32) (σ : Hp) (q : Hp) (h : J2_add_2 l0 l1 l2 l3 σ = some q) : Rn γ mJ2_add_2 yJ2_add_2 [va_rf l0, va_rf l1, va_rf l2, .int l3] (σ, .inr none, q) := by
  refine J_m hγ ykJ2_add_2 rfl [(1, va_rf l0), (1, va_rf l1), (1, va_rf l2), (1, .int l3)] (cats_r (cats_r (cats_r (cats_i cats_nil)))) (Nat.le_of_ble_eq_true rfl) ?_
  show J γ mJ2_add_2 _ σ 0 [(0, 1, va_rf l0), (1, 1, va_rf l1), (2, 1, va_rf l2), (3, 1, .int l3)] []
  unfold J2_add_2 at h
  refine J_iload_n (i := 3) 3 1 dJ2_add_2_0 rfl rfl rfl ?_
  refine J_aload_n (i := 2) 2 2 dJ2_add_2_1 rfl rfl rfl ?_
  obtain ⟨v1, hv1, h⟩ := some_of_bind h
  refine J_alen 3 dJ2_add_2_2 rfl hv1 ?_
  refine J_icmp_ne 11 6 dJ2_add_2_3 (by decide) rfl (fun c2 => ?_) (fun c2 => ?_)
  · rw [if_neg c2] at h
    exact jJ2_add_2_c11 hγ l0 l1 l2 l3  σ h
  · rw [if_pos c2] at h
    refine J_aload_n (i := 0) 0 7 dJ2_add_2_6 rfl rfl rfl ?_
    obtain ⟨b4, hb4, h⟩ := some_of_bind h
    obtain ⟨q3, hq3, h⟩ := some_of_bind h
    refine J_cVr 10 dJ2_add_2_7 rfl ykJ2_grow (Or.inl q1504) q1506 qs19 (Nat.le_of_ble_eq_true rfl) cs_nil (by decide) [] hb4 (by decide) rfl rfl rfl (sJ2_grow hγ l0  σ q3 hq3) ?_
    refine J_astore_n (i := 2) 11 [(2, 1, va_rf q3.1), (0, 1, va_rf l0), (1, 1, va_rf l1), (3, 1, .int l3)] dJ2_add_2_10 rfl rfl (Nat.le_of_ble_eq_true rfl) rfl ?_
    refine J.pick [1, 2, 0, 3] rfl ?_
    exact jJ2_add_2_c11 hγ l0 l1 q3.1 l3  q3.2 h
abbrev mJ2_add : MP := (cJ2_add, "java/util/ArrayList", 2, (Option.some FieldType.boolean), 6, "add", [])
theorem ykJ2_add : YK yJ2_add mJ2_add 1 := ⟨q1499, q132, ⟨by decide, by decide⟩, by decide +kernel, Nat.le_of_ble_eq_true rfl, by decide, rfl, rfl⟩
theorem fk_l_228 : FOK "java/util/ArrayList" 63 [31] 0 isI := FOK.one (by decide) rfl (Nat.le_of_ble_eq_true rfl) (Or.inl ⟨_, q211, Or.inr q212⟩) rfl
theorem pk_l_229 {nm9 : String} : POK "java/util/ArrayList" nm9 63 [31] 0 .int := POK.one (by decide) rfl (Nat.le_of_ble_eq_true rfl) (Or.inl ⟨_, q211, Or.inr q212⟩) rfl (by decide +kernel) (Or.inl rfl)
def J2_add (l0 : Option Nat) (l1 : Option Nat) (σ : Hp) : Option (Int32 × Hp) :=
  (gI σ l0 [31] 0).bind fun v1 =>
  (pI σ l0 [31] 0 (v1 + (1 : Int32))).bind fun σ2 =>
  (gR σ2 l0 [31] 1).bind fun v3 =>
  (gI σ2 l0 [31] 2).bind fun v4 =>
  (cT σ2 l0 31).bind fun b6 =>
  (J2_add_2 l0 l1 v3 v4 σ2).bind fun q5 =>
  some ((1 : Int32), q5)
set_option maxHeartbeats 4000000 in
theorem sJ2_add {γ : GP} (hγ : GOK γ) (l0 : Option Nat) (l1 : Option Nat) (σ : Hp) (q : (Int32 × Hp)) (h : J2_add l0 l1 σ = some q) : Rn γ mJ2_add yJ2_add [va_rf l0, va_rf l1] (σ, .inr (some (.int q.1)), q.2) := by
  refine J_m hγ ykJ2_add rfl [(1, va_rf l0), (1, va_rf l1)] (cats_r (cats_r cats_nil)) (Nat.le_of_ble_eq_true rfl) ?_
  show J γ mJ2_add _ σ 0 [(0, 1, va_rf l0), (1, 1, va_rf l1)] []
  unfold J2_add at h
  refine J_aload_n (i := 0) 0 1 dJ2_add_0 rfl rfl rfl ?_
  refine J_dupr 2 dJ2_add_1 rfl ?_
  obtain ⟨v1, hv1, h⟩ := some_of_bind h
  refine J_gI 5 dJ2_add_2 rfl fk_l_228 hv1 ?_
  refine J_ic 6 dJ2_add_5 rfl (1 : Int32) kic_1 ?_
  refine J_iadd 7 dJ2_add_6 rfl ?_
  obtain ⟨σ2, hσ2, h⟩ := some_of_bind h
  refine J_pI 10 dJ2_add_7 rfl pk_l_229 hσ2 ?_
  refine J_aload_n (i := 0) 0 11 dJ2_add_10 rfl rfl rfl ?_
  refine J_aload_n (i := 1) 1 12 dJ2_add_11 rfl rfl rfl ?_
  refine J_aload_n (i := 0) 0 13 dJ2_add_12 rfl rfl rfl ?_
  obtain ⟨v3, hv3, h⟩ := some_of_bind h
  refine J_gR 16 dJ2_add_13 rfl fk_l_225 hv3 ?_
  refine J_aload_n (i := 0) 0 17 dJ2_add_16 rfl rfl rfl ?_
  obtain ⟨v4, hv4, h⟩ := some_of_bind h
  refine J_gI 20 dJ2_add_17 rfl fk_l_224 hv4 ?_
  obtain ⟨b6, hb6, h⟩ := some_of_bind h
  obtain ⟨q5, hq5, h⟩ := some_of_bind h
  refine J_cVv 23 dJ2_add_20 rfl ykJ2_add_2 (Or.inl q1500) q1502 qs18 (Nat.le_of_ble_eq_true rfl) cs_nil (by decide) [va_rf l1, va_rf v3, .int v4] hb6 (by decide) rfl rfl rfl (sJ2_add_2 hγ l0 l1 v3 v4 σ2 q5 hq5) ?_
  refine J_ic 24 dJ2_add_23 rfl (1 : Int32) kic_1 ?_
  exact J_zret rfl (by decide) dJ2_add_24 (retI h)
def vToArray (x0 : Option Nat) (σ : Hp) : Option (Option Nat × Hp) := x0.bind fun a => if htg σ a = 31 then J2_toArray x0 σ else none
theorem svToArray {γ : GP} (hγ : GOK γ) (x0 : Option Nat) (σ : Hp) (q : (Option Nat × Hp)) (h : vToArray x0 σ = some q) : UG γ 3 ({ cls := "java/util/Collection", name := "toArray", desc := "()[Ljava/lang/Object;" } : MethodName) 0 x0 [] (σ, .inr (some (va_rf q.1)), q.2) := by
  unfold vToArray at h
  obtain ⟨a, ha, h⟩ := some_of_bind h
  rcases Classical.em (htg σ a = 31) with c0 | c0
  · rw [if_pos c0] at h
    exact Or.inl (UF.of (c9 := 31) (b := a) (show cT σ x0 31 = some a by rw [ha]; exact if_pos c0) (by decide) rfl ykJ2_toArray q2174 q2176 (show 3 ≤ 3 by omega) ⟨q2172, q2171, q2177, q2175, q2173⟩ (sJ2_toArray hγ x0 σ q h))
  · rw [if_neg c0] at h
    cases h
abbrev mJ2_addAll : MP := (cJ2_addAll, "java/util/ArrayList", 6, (Option.some FieldType.boolean), 4, "addAll", [])
theorem ykJ2_addAll : YK yJ2_addAll mJ2_addAll 1 := ⟨q2168, q132, ⟨by decide, by decide⟩, by decide +kernel, Nat.le_of_ble_eq_true rfl, by decide, rfl, rfl⟩
def J2_addAll_c56  (l0 : Option Nat) (l2 : Option Nat) (l3 : Int32) (l4 : Option Nat) (l5 : Int32)  (σ : Hp) : Option (Int32 × Hp) :=
  (cpR 15 15 σ l2 (0 : Int32) l4 l5 l3).bind fun σ1 =>
  (pI σ1 l0 [31] 2 (l5 + l3)).bind fun σ2 =>
  some ((1 : Int32), σ2)
set_option maxHeartbeats 4000000 in
theorem jJ2_addAll_c56 {γ : GP} {σ0 : Hp} {q : (Int32 × Hp)} (hγ : GOK γ) (l0 : Option Nat) (l2 : Option Nat) (l3 : Int32) (l4 : Option Nat) (l5 : Int32)   (σ : Hp) (h : J2_addAll_c56 l0 l2 l3 l4 l5 σ = some q) : J γ mJ2_addAll (σ0, .inr (some (.int q.1)), q.2) σ 56 [(0, 1, va_rf l0), (2, 1, va_rf l2), (3, 1, .int l3), (4, 1, va_rf l4), (5, 1, .int l5)] [] := by
  unfold J2_addAll_c56 at h
  refine J_aload_n (i := 2) 1 57 dJ2_addAll_56 rfl rfl rfl ?_
  refine J_ic 58 dJ2_addAll_57 rfl (0 : Int32) kic_0 ?_
  refine J_aload (i := 4) 3 60 dJ2_addAll_58 rfl rfl ?_
  refine J_iload (i := 5) 4 62 dJ2_addAll_60 rfl rfl ?_
  refine J_iload_n (i := 3) 2 63 dJ2_addAll_62 rfl rfl rfl ?_
  obtain ⟨σ1, hσ1, h⟩ := some_of_bind h
  refine J_cpR 15 15 (by decide) (by decide) (by decide) (by decide) q2179 (Nat.le_of_ble_eq_true rfl) cs_nil (by decide) 66 dJ2_addAll_63 rfl hσ1 ?_
  refine J_aload_n (i := 0) 0 67 dJ2_addAll_66 rfl rfl rfl ?_
  refine J_iload (i := 5) 4 69 dJ2_addAll_67 rfl rfl ?_
  refine J_iload_n (i := 3) 2 70 dJ2_addAll_69 rfl rfl rfl ?_
  refine J_iadd 71 dJ2_addAll_70 rfl ?_
  obtain ⟨σ2, hσ2, h⟩ := some_of_bind h
  refine J_pI 74 dJ2_addAll_71 rfl pk_l_227 hσ2 ?_
  refine J_ic 75 dJ2_addAll_74 rfl (1 : Int32) kic_1 ?_
  exact J_zret rfl (by decide) dJ2_addAll_75 (retI h)
def J2_addAll (l0 : Option Nat) (l1 : Option Nat) (σ : Hp) : Option (Int32 × Hp) :=
  (vToArray l1  σ).bind fun q1 =>
  (gI q1.2 l0 [31] 0).bind fun v2 =>
  (pI q1.2 l0 [31] 0 (v2 + (1 : Int32))).bind fun σ3 =>
  (aN σ3 q1.1).bind fun v4 =>
  if v4 = 0 then
    some ((0 : Int32), σ3)
  else
    (gR σ3 l0 [31] 1).bind fun v6 =>
    (aN σ3 v6).bind fun v7 =>
    (gI σ3 l0 [31] 2).bind fun v8 =>
    if v4 ≤ (v7 - v8) then
      J2_addAll_c56  l0 q1.1 v4 v6 v8  σ3
    else
      (cT σ3 l0 31).bind fun b11 =>
      (J2_grow_2 l0 (v8 + v4) σ3).bind fun q10 =>
      J2_addAll_c56  l0 q1.1 v4 q10.1 v8  q10.2
set_option maxHeartbeats 4000000 in
theorem sJ2_addAll {γ : GP} (hγ : GOK γ) (l0 : Option Nat) (l1 : Option Nat) (σ : Hp) (q : (Int32 × Hp)) (h : J2_addAll l0 l1 σ = some q) : Rn γ mJ2_addAll yJ2_addAll [va_rf l0, va_rf l1] (σ, .inr (some (.int q.1)), q.2) := by
  refine J_m hγ ykJ2_addAll rfl [(1, va_rf l0), (1, va_rf l1)] (cats_r (cats_r cats_nil)) (Nat.le_of_ble_eq_true rfl) ?_
  show J γ mJ2_addAll _ σ 0 [(0, 1, va_rf l0), (1, 1, va_rf l1)] []
  unfold J2_addAll at h
  refine J_aload_n (i := 1) 1 1 dJ2_addAll_0 rfl rfl rfl ?_
  obtain ⟨q1, hq1, h⟩ := some_of_bind h
  refine J_cGr (na := 0) 6 dJ2_addAll_1 rfl q2170 ⟨by decide, by decide, by decide +kernel⟩ (show (3) + 1 ≤ 4 by omega) cs_nil (by decide) [] rfl rfl (svToArray hγ l1  σ q1 hq1) ?_
  refine J_astore_n (i := 2) 7 [(2, 1, va_rf q1.1), (0, 1, va_rf l0), (1, 1, va_rf l1)] dJ2_addAll_6 rfl rfl (Nat.le_of_ble_eq_true rfl) rfl ?_
  refine J_aload_n (i := 0) 1 8 dJ2_addAll_7 rfl rfl rfl ?_
  refine J_dupr 9 dJ2_addAll_8 rfl ?_
  obtain ⟨v2, hv2, h⟩ := some_of_bind h
  refine J_gI 12 dJ2_addAll_9 rfl fk_l_228 hv2 ?_
  refine J_ic 13 dJ2_addAll_12 rfl (1 : Int32) kic_1 ?_
  refine J_iadd 14 dJ2_addAll_13 rfl ?_
  obtain ⟨σ3, hσ3, h⟩ := some_of_bind h
  refine J_pI 17 dJ2_addAll_14 rfl pk_l_229 hσ3 ?_
  refine J_aload_n (i := 2) 0 18 dJ2_addAll_17 rfl rfl rfl ?_
  obtain ⟨v4, hv4, h⟩ := some_of_bind h
  refine J_alen 19 dJ2_addAll_18 rfl hv4 ?_
  refine J_istore_n (i := 3) 20 [(3, 1, .int v4), (2, 1, va_rf q1.1), (0, 1, va_rf l0), (1, 1, va_rf l1)] dJ2_addAll_19 rfl rfl (Nat.le_of_ble_eq_true rfl) rfl ?_
  refine J_iload_n (i := 3) 0 21 dJ2_addAll_20 rfl rfl rfl ?_
  refine J_if_ne 26 24 dJ2_addAll_21 (by decide) rfl (fun c5 => ?_) (fun c5 => ?_)
  · rw [if_neg c5] at h
    refine J_iload_n (i := 3) 0 27 dJ2_addAll_26 rfl rfl rfl ?_
    refine J_aload_n (i := 0) 2 28 dJ2_addAll_27 rfl rfl rfl ?_
    obtain ⟨v6, hv6, h⟩ := some_of_bind h
    refine J_gR 31 dJ2_addAll_28 rfl fk_l_225 hv6 ?_
    refine J_dupr 32 dJ2_addAll_31 rfl ?_
    refine J_astore (i := 4) 34 [(4, 1, va_rf v6), (3, 1, .int v4), (2, 1, va_rf q1.1), (0, 1, va_rf l0), (1, 1, va_rf l1)] dJ2_addAll_32 rfl (Nat.le_of_ble_eq_true rfl) rfl ?_
    obtain ⟨v7, hv7, h⟩ := some_of_bind h
    refine J_alen 35 dJ2_addAll_34 rfl hv7 ?_
    refine J_aload_n (i := 0) 3 36 dJ2_addAll_35 rfl rfl rfl ?_
    obtain ⟨v8, hv8, h⟩ := some_of_bind h
    refine J_gI 39 dJ2_addAll_36 rfl fk_l_224 hv8 ?_
    refine J_dupi 40 dJ2_addAll_39 rfl ?_
    refine J_istore (i := 5) 42 [(5, 1, .int v8), (4, 1, va_rf v6), (3, 1, .int v4), (2, 1, va_rf q1.1), (0, 1, va_rf l0), (1, 1, va_rf l1)] dJ2_addAll_40 rfl (Nat.le_of_ble_eq_true rfl) rfl ?_
    refine J_isub 43 dJ2_addAll_42 rfl ?_
    refine J_icmp_le 56 46 dJ2_addAll_43 (by decide) rfl (fun c9 => ?_) (fun c9 => ?_)
    · rw [if_pos c9] at h
      refine J.pick [4, 3, 2, 1, 0] rfl ?_
      exact jJ2_addAll_c56 hγ l0 q1.1 v4 v6 v8  σ3 h
    · rw [if_neg c9] at h
      refine J_aload_n (i := 0) 4 47 dJ2_addAll_46 rfl rfl rfl ?_
      refine J_iload (i := 5) 0 49 dJ2_addAll_47 rfl rfl ?_
      refine J_iload_n (i := 3) 2 50 dJ2_addAll_49 rfl rfl rfl ?_
      refine J_iadd 51 dJ2_addAll_50 rfl ?_
      obtain ⟨b11, hb11, h⟩ := some_of_bind h
      obtain ⟨q10, hq10, h⟩ := some_of_bind h
      refine J_cVr 54 dJ2_addAll_51 rfl ykJ2_grow_2 (Or.inl q1508) q1510 qs20 (Nat.le_of_ble_eq_true rfl) cs_nil (by decide) [.int (v8 + v4)] hb11 (by decide) rfl rfl rfl (sJ2_grow_2 hγ l0 (v8 + v4) σ3 q10 hq10) ?_
      refine J_astore (i := 4) 56 [(4, 1, va_rf q10.1), (5, 1, .int v8), (3, 1, .int v4), (2, 1, va_rf q1.1), (0, 1, va_rf l0), (1, 1, va_rf l1)] dJ2_addAll_54 rfl (Nat.le_of_ble_eq_true rfl) rfl ?_
      refine J.pick [4, 3, 2, 0, 1] rfl ?_
      exact jJ2_addAll_c56 hγ l0 q1.1 v4 q10.1 v8  q10.2 h
  · rw [if_pos c5] at h
    refine J_ic 25 dJ2_addAll_24 rfl (0 : Int32) kic_0 ?_
    exact J_zret rfl (by decide) dJ2_addAll_25 (retI h)
