set_option maxRecDepth 100000
abbrev mJ13_getValue : MP := (cJ13_getValue, "java/lang/AbstractStringBuilder", 1, (Option.some (FieldType.array FieldType.byte)), 0, "getValue", [])
theorem ykJ13_getValue : YK yJ13_getValue mJ13_getValue 0 := ⟨q933, q150, ⟨by decide, by decide⟩, by decide +kernel, Nat.le_of_ble_eq_true rfl, by decide, rfl, rfl⟩
theorem fk_s_374 : FOK "java/lang/AbstractStringBuilder" 15 [35] 0 isR := FOK.one (by decide) rfl (Nat.le_of_ble_eq_true rfl) (Or.inl ⟨_, q802, Or.inl rfl⟩) rfl
def J13_getValue (l0 : Option Nat) (σ : Hp) : Option (Option Nat × Hp) :=
  (gR σ l0 [35] 0).bind fun v1 =>
  some (v1, σ)
set_option maxHeartbeats 4000000 in
theorem sJ13_getValue {γ : GP} (hγ : GOK γ) (l0 : Option Nat) (σ : Hp) (q : (Option Nat × Hp)) (h : J13_getValue l0 σ = some q) : Rn γ mJ13_getValue yJ13_getValue [va_rf l0] (σ, .inr (some (va_rf q.1)), q.2) := by
  refine J_m hγ ykJ13_getValue rfl [(1, va_rf l0)] (cats_r cats_nil) (Nat.le_of_ble_eq_true rfl) ?_
  show J γ mJ13_getValue _ σ 0 [(0, 1, va_rf l0)] []
  unfold J13_getValue at h
  refine J_aload_n (i := 0) 0 1 dJ13_getValue_0 rfl rfl rfl ?_
  obtain ⟨v1, hv1, h⟩ := some_of_bind h
  refine J_gR 4 dJ13_getValue_1 rfl fk_s_374 hv1 ?_
  exact J_aret rfl (Or.inr ⟨_, rfl⟩) dJ13_getValue_4 (retR h)
abbrev mJ13_length : MP := (cJ13_length, "java/lang/AbstractStringBuilder", 1, (Option.some FieldType.int), 0, "length", [])
theorem ykJ13_length : YK yJ13_length mJ13_length 0 := ⟨q941, q150, ⟨by decide, by decide⟩, by decide +kernel, Nat.le_of_ble_eq_true rfl, by decide, rfl, rfl⟩
theorem fk_s_375 : FOK "java/lang/AbstractStringBuilder" 79 [35] 3 isI := FOK.one (by decide) rfl (Nat.le_of_ble_eq_true rfl) (Or.inl ⟨_, q805, Or.inl rfl⟩) rfl
def J13_length (l0 : Option Nat) (σ : Hp) : Option (Int32 × Hp) :=
  (gI σ l0 [35] 3).bind fun v1 =>
  some (v1, σ)
set_option maxHeartbeats 4000000 in
theorem sJ13_length {γ : GP} (hγ : GOK γ) (l0 : Option Nat) (σ : Hp) (q : (Int32 × Hp)) (h : J13_length l0 σ = some q) : Rn γ mJ13_length yJ13_length [va_rf l0] (σ, .inr (some (.int q.1)), q.2) := by
  refine J_m hγ ykJ13_length rfl [(1, va_rf l0)] (cats_r cats_nil) (Nat.le_of_ble_eq_true rfl) ?_
  show J γ mJ13_length _ σ 0 [(0, 1, va_rf l0)] []
  unfold J13_length at h
  refine J_aload_n (i := 0) 0 1 dJ13_length_0 rfl rfl rfl ?_
  obtain ⟨v1, hv1, h⟩ := some_of_bind h
  refine J_gI 4 dJ13_length_1 rfl fk_s_375 hv1 ?_
  exact J_iret rfl dJ13_length_4 (retI h)
abbrev mJ14_length : MP := (cJ14_length, "java/lang/StringBuilder", 1, (Option.some FieldType.int), 1, "length", [])
theorem ykJ14_length : YK yJ14_length mJ14_length 0 := ⟨q939, q151, ⟨by decide, by decide⟩, by decide +kernel, Nat.le_of_ble_eq_true rfl, by decide, rfl, rfl⟩
def J14_length (l0 : Option Nat) (σ : Hp) : Option (Int32 × Hp) :=
  (cT σ l0 35).bind fun b2 =>
  (J13_length l0  σ).bind fun q1 =>
  some (q1.1, q1.2)
set_option maxHeartbeats 4000000 in
theorem sJ14_length {γ : GP} (hγ : GOK γ) (l0 : Option Nat) (σ : Hp) (q : (Int32 × Hp)) (h : J14_length l0 σ = some q) : Rn γ mJ14_length yJ14_length [va_rf l0] (σ, .inr (some (.int q.1)), q.2) := by
  refine J_m hγ ykJ14_length rfl [(1, va_rf l0)] (cats_r cats_nil) (Nat.le_of_ble_eq_true rfl) ?_
  show J γ mJ14_length _ σ 0 [(0, 1, va_rf l0)] []
  unfold J14_length at h
  refine J_aload_n (i := 0) 0 1 dJ14_length_0 rfl rfl rfl ?_
  obtain ⟨b2, hb2, h⟩ := some_of_bind h
  obtain ⟨q1, hq1, h⟩ := some_of_bind h
  refine J_cPi 4 dJ14_length_1 rfl ykJ13_length q940 q936 q814 q935 (by decide) (Nat.le_of_ble_eq_true rfl) cs_nil (by decide) [] hb2 (by decide) rfl rfl rfl (sJ13_length hγ l0  σ q1 hq1) ?_
  exact J_iret rfl dJ14_length_4 (retI h)
abbrev mJ13_isLatin1 : MP := (cJ13_isLatin1, "java/lang/AbstractStringBuilder", 1, (Option.some FieldType.boolean), 0, "isLatin1", [])
theorem ykJ13_isLatin1 : YK yJ13_isLatin1 mJ13_isLatin1 0 := ⟨q855, q150, ⟨by decide, by decide⟩, by decide +kernel, Nat.le_of_ble_eq_true rfl, by decide, rfl, rfl⟩
theorem fk_s_376 : FOK "java/lang/AbstractStringBuilder" 22 [35] 1 isI := FOK.one (by decide) rfl (Nat.le_of_ble_eq_true rfl) (Or.inl ⟨_, q803, Or.inl rfl⟩) rfl
def J13_isLatin1 (l0 : Option Nat) (σ : Hp) : Option (Int32 × Hp) :=
  if (1 : Int32) = 0 then
    some ((0 : Int32), σ)
  else
    (gI σ l0 [35] 1).bind fun v3 =>
    if v3 = 0 then
      some ((1 : Int32), σ)
    else
      some ((0 : Int32), σ)
set_option maxHeartbeats 4000000 in
theorem sJ13_isLatin1 {γ : GP} (hγ : GOK γ) (l0 : Option Nat) (σ : Hp) (q : (Int32 × Hp)) (h : J13_isLatin1 l0 σ = some q) : Rn γ mJ13_isLatin1 yJ13_isLatin1 [va_rf l0] (σ, .inr (some (.int q.1)), q.2) := by
  refine J_m hγ ykJ13_isLatin1 rfl [(1, va_rf l0)] (cats_r cats_nil) (Nat.le_of_ble_eq_true rfl) ?_
  show J γ mJ13_isLatin1 _ σ 0 [(0, 1, va_rf l0)] []
  unfold J13_isLatin1 at h
  refine J_getsI (x := 1) (by decide) q793 3 dJ13_isLatin1_0 rfl ?_
  refine J_if_eq 17 6 dJ13_isLatin1_3 (by decide) rfl (fun c1 => ?_) (fun c1 => ?_)
  · rw [if_pos c1] at h
    refine J_ic 18 dJ13_isLatin1_17 rfl (0 : Int32) kic_0 ?_
    exact J_zret rfl (by decide) dJ13_isLatin1_18 (retI h)
  · rw [if_neg c1] at h
    refine J_aload_n (i := 0) 0 7 dJ13_isLatin1_6 rfl rfl rfl ?_
    obtain ⟨v3, hv3, h⟩ := some_of_bind h
    refine J_gI 10 dJ13_isLatin1_7 rfl fk_s_376 hv3 ?_
    refine J_if_ne 17 13 dJ13_isLatin1_10 (by decide) rfl (fun c4 => ?_) (fun c4 => ?_)
    · rw [if_neg c4] at h
      refine J_ic 18 dJ13_isLatin1_17 rfl (0 : Int32) kic_0 ?_
      exact J_zret rfl (by decide) dJ13_isLatin1_18 (retI h)
    · rw [if_pos c4] at h
      refine J_ic 14 dJ13_isLatin1_13 rfl (1 : Int32) kic_1 ?_
      refine J_goto 18 dJ13_isLatin1_14 (by decide) ?_
      exact J_zret rfl (by decide) dJ13_isLatin1_18 (retI h)
abbrev mJ6_checkLength : MP := (cJ6_checkLength, "java/util/Arrays", 2, (Option.none : Option FieldType), 1, "checkLength", [])
theorem ykJ6_checkLength : YK yJ6_checkLength mJ6_checkLength 2 := ⟨q951, q142, ⟨by decide, by decide⟩, by decide +kernel, Nat.le_of_ble_eq_true rfl, by decide, rfl, rfl⟩
def J6_checkLength (l0 : Int32) (l1 : Int32) (σ : Hp) : Option Hp :=
  if l0 ≤ l1 then
    some σ
  else
    none
set_option maxHeartbeats 4000000 in
theorem sJ6_checkLength {γ : GP} (hγ : GOK γ) (l0 : Int32) (l1 : Int32) (σ : Hp) (q : Hp) (h : J6_checkLength l0 l1 σ = some q) : Rn γ mJ6_checkLength yJ6_checkLength [.int l0, .int l1] (σ, .inr none, q) := by
  refine J_m hγ ykJ6_checkLength rfl [(1, .int l0), (1, .int l1)] (cats_i (cats_i cats_nil)) (Nat.le_of_ble_eq_true rfl) ?_
  show J γ mJ6_checkLength _ σ 0 [(0, 1, .int l0), (1, 1, .int l1)] []
  unfold J6_checkLength at h
  refine J_iload_n (i := 1) 1 1 dJ6_checkLength_0 rfl rfl rfl ?_
  refine J_iload_n (i := 0) 0 2 dJ6_checkLength_1 rfl rfl rfl ?_
  refine J_icmp_ge 37 5 dJ6_checkLength_2 (by decide) rfl (fun c1 => ?_) (fun c1 => ?_)
  · rw [if_pos c1] at h
    exact J_vret rfl dJ6_checkLength_37 (retV h)
  · rw [if_neg c1] at h
    cases h
abbrev mJ6_copyOfRangeByte : MP := (cJ6_copyOfRangeByte, "java/util/Arrays", 5, (Option.some (FieldType.array FieldType.byte)), 2, "copyOfRangeByte", [])
theorem ykJ6_copyOfRangeByte : YK yJ6_copyOfRangeByte mJ6_copyOfRangeByte 3 := ⟨q948, q142, ⟨by decide, by decide⟩, by decide +kernel, Nat.le_of_ble_eq_true rfl, by decide, rfl, rfl⟩
def J6_copyOfRangeByte (l0 : Option Nat) (l1 : Int32) (l2 : Int32) (σ : Hp) : Option (Option Nat × Hp) :=
  (J6_checkLength l1 l2 σ).bind fun q1 =>
  (nA 2 q1 (l2 - l1)).bind fun σ2 =>
  (aN σ2 l0).bind fun v3 =>
  (cpI 2 σ2 l0 l1 (some (hsz q1)) (0 : Int32) (imin (v3 - l1) (l2 - l1))).bind fun σ4 =>
  some ((some (hsz q1)), σ4)
set_option maxHeartbeats 4000000 in
theorem sJ6_copyOfRangeByte {γ : GP} (hγ : GOK γ) (l0 : Option Nat) (l1 : Int32) (l2 : Int32) (σ : Hp) (q : (Option Nat × Hp)) (h : J6_copyOfRangeByte l0 l1 l2 σ = some q) : Rn γ mJ6_copyOfRangeByte yJ6_copyOfRangeByte [va_rf l0, .int l1, .int l2] (σ, .inr (some (va_rf q.1)), q.2) := by
  refine J_m hγ ykJ6_copyOfRangeByte rfl [(1, va_rf l0), (1, .int l1), (1, .int l2)] (cats_r (cats_i (cats_i cats_nil))) (Nat.le_of_ble_eq_true rfl) ?_
  show J γ mJ6_copyOfRangeByte _ σ 0 [(0, 1, va_rf l0), (1, 1, .int l1), (2, 1, .int l2)] []
  unfold J6_copyOfRangeByte at h
  refine J_iload_n (i := 1) 1 1 dJ6_copyOfRangeByte_0 rfl rfl rfl ?_
  refine J_iload_n (i := 2) 2 2 dJ6_copyOfRangeByte_1 rfl rfl rfl ?_
  obtain ⟨q1, hq1, h⟩ := some_of_bind h
  refine J_cSv 5 dJ6_copyOfRangeByte_2 rfl ykJ6_checkLength (Or.inl q949) q950 (Nat.le_of_ble_eq_true rfl) cs_nil (by decide) [.int l1, .int l2] rfl rfl (sJ6_checkLength hγ l1 l2 σ q1 hq1) ?_
  refine J_iload_n (i := 2) 2 6 dJ6_copyOfRangeByte_5 rfl rfl rfl ?_
  refine J_iload_n (i := 1) 1 7 dJ6_copyOfRangeByte_6 rfl rfl rfl ?_
  refine J_isub 8 dJ6_copyOfRangeByte_7 rfl ?_
  refine J_istore_n (i := 3) 9 [(3, 1, .int (l2 - l1)), (0, 1, va_rf l0), (1, 1, .int l1), (2, 1, .int l2)] dJ6_copyOfRangeByte_8 rfl rfl (Nat.le_of_ble_eq_true rfl) rfl ?_
  refine J_iload_n (i := 3) 0 10 dJ6_copyOfRangeByte_9 rfl rfl rfl ?_
  obtain ⟨σ2, hσ2, h⟩ := some_of_bind h
  refine J_newB 12 dJ6_copyOfRangeByte_10 rfl hσ2 ?_
  refine J_astore (i := 4) 14 [(4, 1, va_rf (some (hsz q1))), (3, 1, .int (l2 - l1)), (0, 1, va_rf l0), (1, 1, .int l1), (2, 1, .int l2)] dJ6_copyOfRangeByte_12 rfl (Nat.le_of_ble_eq_true rfl) rfl ?_
  refine J_aload_n (i := 0) 2 15 dJ6_copyOfRangeByte_14 rfl rfl rfl ?_
  refine J_iload_n (i := 1) 3 16 dJ6_copyOfRangeByte_15 rfl rfl rfl ?_
  refine J_aload (i := 4) 0 18 dJ6_copyOfRangeByte_16 rfl rfl ?_
  refine J_ic 19 dJ6_copyOfRangeByte_18 rfl (0 : Int32) kic_0 ?_
  refine J_aload_n (i := 0) 2 20 dJ6_copyOfRangeByte_19 rfl rfl rfl ?_
  obtain ⟨v3, hv3, h⟩ := some_of_bind h
  refine J_alen 21 dJ6_copyOfRangeByte_20 rfl hv3 ?_
  refine J_iload_n (i := 1) 3 22 dJ6_copyOfRangeByte_21 rfl rfl rfl ?_
  refine J_isub 23 dJ6_copyOfRangeByte_22 rfl ?_
  refine J_iload_n (i := 3) 1 24 dJ6_copyOfRangeByte_23 rfl rfl rfl ?_
  refine J_mminI q849 (Nat.le_of_ble_eq_true rfl) (cs_int (cs_rf (cs_int (cs_rf cs_nil)))) (by decide) 27 dJ6_copyOfRangeByte_24 rfl ?_
  obtain ⟨σ4, hσ4, h⟩ := some_of_bind h
  refine J_cpI 2 (by decide) (by decide) rfl rfl q850 (Nat.le_of_ble_eq_true rfl) cs_nil (by decide) 30 dJ6_copyOfRangeByte_27 rfl hσ4 ?_
  refine J_aload (i := 4) 0 32 dJ6_copyOfRangeByte_30 rfl rfl ?_
  exact J_aret rfl (Or.inr ⟨_, rfl⟩) dJ6_copyOfRangeByte_32 (retR h)
abbrev mJ6_copyOfRange : MP := (cJ6_copyOfRange, "java/util/Arrays", 3, (Option.some (FieldType.array FieldType.byte)), 3, "copyOfRange", [])
theorem ykJ6_copyOfRange : YK yJ6_copyOfRange mJ6_copyOfRange 3 := ⟨q945, q142, ⟨by decide, by decide⟩, by decide +kernel, Nat.le_of_ble_eq_true rfl, by decide, rfl, rfl⟩
def J6_copyOfRange_c10  (l0 : Option Nat) (l1 : Int32) (l2 : Int32)  (σ : Hp) : Option (Option Nat × Hp) :=
  (J6_copyOfRangeByte l0 l1 l2 σ).bind fun q1 =>
  some (q1.1, q1.2)
set_option maxHeartbeats 4000000 in
theorem jJ6_copyOfRange_c10 {γ : GP} {σ0 : Hp} {q : (Option Nat × Hp)} (hγ : GOK γ) (l0 : Option Nat) (l1 : Int32) (l2 : Int32)   (σ : Hp) (h : J6_copyOfRange_c10 l0 l1 l2 σ = some q) : J γ mJ6_copyOfRange (σ0, .inr (some (va_rf q.1)), q.2) σ 10 [(0, 1, va_rf l0), (1, 1, .int l1), (2, 1, .int l2)] [] := by
  unfold J6_copyOfRange_c10 at h
  refine J_aload_n (i := 0) 0 11 dJ6_copyOfRange_10 rfl rfl rfl ?_
  refine J_iload_n (i := 1) 1 12 dJ6_copyOfRange_11 rfl rfl rfl ?_
  refine J_iload_n (i := 2) 2 13 dJ6_copyOfRange_12 rfl rfl rfl ?_
  obtain ⟨q1, hq1, h⟩ := some_of_bind h
  refine J_cSr 16 dJ6_copyOfRange_13 rfl ykJ6_copyOfRangeByte (Or.inl q946) q947 (Nat.le_of_ble_eq_true rfl) cs_nil (by decide) [va_rf l0, .int l1, .int l2] rfl rfl (sJ6_copyOfRangeByte hγ l0 l1 l2 σ q1 hq1) ?_
  exact J_aret rfl (Or.inr ⟨_, rfl⟩) dJ6_copyOfRange_16 (retR h)
def J6_copyOfRange (l0 : Option Nat) (l1 : Int32) (l2 : Int32) (σ : Hp) : Option (Option Nat × Hp) :=
  if l1 = 0 then
    (aN σ l0).bind fun v2 =>
    if l2 = v2 then
      (clB σ l0).bind fun σ4 =>
      (cT σ4 (some (hsz σ)) 102).bind fun b5 =>
      some ((some (hsz σ)), σ4)
    else
      J6_copyOfRange_c10  l0 l1 l2  σ
  else
    J6_copyOfRange_c10  l0 l1 l2  σ
set_option maxHeartbeats 4000000 in
theorem sJ6_copyOfRange {γ : GP} (hγ : GOK γ) (l0 : Option Nat) (l1 : Int32) (l2 : Int32) (σ : Hp) (q : (Option Nat × Hp)) (h : J6_copyOfRange l0 l1 l2 σ = some q) : Rn γ mJ6_copyOfRange yJ6_copyOfRange [va_rf l0, .int l1, .int l2] (σ, .inr (some (va_rf q.1)), q.2) := by
  refine J_m hγ ykJ6_copyOfRange rfl [(1, va_rf l0), (1, .int l1), (1, .int l2)] (cats_r (cats_i (cats_i cats_nil))) (Nat.le_of_ble_eq_true rfl) ?_
  show J γ mJ6_copyOfRange _ σ 0 [(0, 1, va_rf l0), (1, 1, .int l1), (2, 1, .int l2)] []
  unfold J6_copyOfRange at h
  refine J_iload_n (i := 1) 1 1 dJ6_copyOfRange_0 rfl rfl rfl ?_
  refine J_if_ne 10 4 dJ6_copyOfRange_1 (by decide) rfl (fun c1 => ?_) (fun c1 => ?_)
  · rw [if_neg c1] at h
    exact jJ6_copyOfRange_c10 hγ l0 l1 l2  σ h
  · rw [if_pos c1] at h
    refine J_iload_n (i := 2) 2 5 dJ6_copyOfRange_4 rfl rfl rfl ?_
    refine J_aload_n (i := 0) 0 6 dJ6_copyOfRange_5 rfl rfl rfl ?_
    obtain ⟨v2, hv2, h⟩ := some_of_bind h
    refine J_alen 7 dJ6_copyOfRange_6 rfl hv2 ?_
    refine J_icmp_eq 17 10 dJ6_copyOfRange_7 (by decide) rfl (fun c3 => ?_) (fun c3 => ?_)
    · rw [if_pos c3] at h
      refine J_aload_n (i := 0) 0 18 dJ6_copyOfRange_17 rfl rfl rfl ?_
      obtain ⟨σ4, hσ4, h⟩ := some_of_bind h
      refine J_clone hσ4 q842 q843 q844 q845 q846 q847 (Nat.le_of_ble_eq_true rfl) cs_nil (by decide) 21 dJ6_copyOfRange_18 rfl ?_
      obtain ⟨b5, hb5, h⟩ := some_of_bind h
      refine J_castB hb5 q848 24 dJ6_copyOfRange_21 rfl ?_
      exact J_aret rfl (Or.inr ⟨_, rfl⟩) dJ6_copyOfRange_24 (retR h)
    · rw [if_neg c3] at h
      exact jJ6_copyOfRange_c10 hγ l0 l1 l2  σ h
abbrev mJ4_checkFromIndexSize : MP := (cJ4_checkFromIndexSize, "jdk/internal/util/Preconditions", 4, (Option.some FieldType.int), 1, "checkFromIndexSize", [])
theorem ykJ4_checkFromIndexSize : YK yJ4_checkFromIndexSize mJ4_checkFromIndexSize 4 := ⟨q882, q140, ⟨by decide, by decide⟩, by decide +kernel, Nat.le_of_ble_eq_true rfl, by decide, rfl, rfl⟩
def J4_checkFromIndexSize_c15  (l0 : Int32) (l1 : Int32) (l2 : Int32) (l3 : Option Nat)  (σ : Hp) : Option (Int32 × Hp) :=
  none
set_option maxHeartbeats 4000000 in
theorem jJ4_checkFromIndexSize_c15 {γ : GP} {σ0 : Hp} {q : (Int32 × Hp)} (hγ : GOK γ) (l0 : Int32) (l1 : Int32) (l2 : Int32) (l3 : Option Nat)   (σ : Hp) (h : J4_checkFromIndexSize_c15 l0 l1 l2 l3 σ = some q) : J γ mJ4_checkFromIndexSize (σ0, .inr (some (.int q.1)), q.2) σ 15 [(0, 1, .int l0), (1, 1, .int l1), (2, 1, .int l2), (3, 1, va_rf l3)] [] := by
  unfold J4_checkFromIndexSize_c15 at h
  refine J_aload_n (i := 3) 3 16 dJ4_checkFromIndexSize_15 rfl rfl rfl ?_
  refine J_iload_n (i := 0) 0 17 dJ4_checkFromIndexSize_16 rfl rfl rfl ?_
  refine J_iload_n (i := 1) 1 18 dJ4_checkFromIndexSize_17 rfl rfl rfl ?_
  refine J_iload_n (i := 2) 2 19 dJ4_checkFromIndexSize_18 rfl rfl rfl ?_
  cases h
def J4_checkFromIndexSize (l0 : Int32) (l1 : Int32) (l2 : Int32) (l3 : Option Nat) (σ : Hp) : Option (Int32 × Hp) :=
  if ((l2 ||| l0) ||| l1) < 0 then
    J4_checkFromIndexSize_c15  l0 l1 l2 l3  σ
  else
    if l1 ≤ (l2 - l0) then
      some (l0, σ)
    else
      J4_checkFromIndexSize_c15  l0 l1 l2 l3  σ
set_option maxHeartbeats 4000000 in
theorem sJ4_checkFromIndexSize {γ : GP} (hγ : GOK γ) (l0 : Int32) (l1 : Int32) (l2 : Int32) (l3 : Option Nat) (σ : Hp) (q : (Int32 × Hp)) (h : J4_checkFromIndexSize l0 l1 l2 l3 σ = some q) : Rn γ mJ4_checkFromIndexSize yJ4_checkFromIndexSize [.int l0, .int l1, .int l2, va_rf l3] (σ, .inr (some (.int q.1)), q.2) := by
  refine J_m hγ ykJ4_checkFromIndexSize rfl [(1, .int l0), (1, .int l1), (1, .int l2), (1, va_rf l3)] (cats_i (cats_i (cats_i (cats_r cats_nil)))) (Nat.le_of_ble_eq_true rfl) ?_
  show J γ mJ4_checkFromIndexSize _ σ 0 [(0, 1, .int l0), (1, 1, .int l1), (2, 1, .int l2), (3, 1, va_rf l3)] []
  unfold J4_checkFromIndexSize at h
  refine J_iload_n (i := 2) 2 1 dJ4_checkFromIndexSize_0 rfl rfl rfl ?_
  refine J_iload_n (i := 0) 0 2 dJ4_checkFromIndexSize_1 rfl rfl rfl ?_
  refine J_ior 3 dJ4_checkFromIndexSize_2 rfl ?_
  refine J_iload_n (i := 1) 1 4 dJ4_checkFromIndexSize_3 rfl rfl rfl ?_
  refine J_ior 5 dJ4_checkFromIndexSize_4 rfl ?_
  refine J_if_lt 15 8 dJ4_checkFromIndexSize_5 (by decide) rfl (fun c1 => ?_) (fun c1 => ?_)
  · rw [if_pos c1] at h
    exact jJ4_checkFromIndexSize_c15 hγ l0 l1 l2 l3  σ h
  · rw [if_neg c1] at h
    refine J_iload_n (i := 1) 1 9 dJ4_checkFromIndexSize_8 rfl rfl rfl ?_
    refine J_iload_n (i := 2) 2 10 dJ4_checkFromIndexSize_9 rfl rfl rfl ?_
    refine J_iload_n (i := 0) 0 11 dJ4_checkFromIndexSize_10 rfl rfl rfl ?_
    refine J_isub 12 dJ4_checkFromIndexSize_11 rfl ?_
    refine J_icmp_le 23 15 dJ4_checkFromIndexSize_12 (by decide) rfl (fun c2 => ?_) (fun c2 => ?_)
    · rw [if_pos c2] at h
      refine J_iload_n (i := 0) 0 24 dJ4_checkFromIndexSize_23 rfl rfl rfl ?_
      exact J_iret rfl dJ4_checkFromIndexSize_24 (retI h)
    · rw [if_neg c2] at h
      exact jJ4_checkFromIndexSize_c15 hγ l0 l1 l2 l3  σ h
abbrev mJ12_checkBoundsOffCount : MP := (cJ12_checkBoundsOffCount, "java/lang/String", 3, (Option.some FieldType.int), 2, "checkBoundsOffCount", [])
theorem ykJ12_checkBoundsOffCount : YK yJ12_checkBoundsOffCount mJ12_checkBoundsOffCount 3 := ⟨q877, q148, ⟨by decide, by decide⟩, by decide +kernel, Nat.le_of_ble_eq_true rfl, by decide, rfl, rfl⟩
def J12_checkBoundsOffCount (l0 : Int32) (l1 : Int32) (l2 : Int32) (σ : Hp) : Option (Int32 × Hp) :=
  (J4_checkFromIndexSize l0 l1 l2 (hst σ 5) σ).bind fun q1 =>
  some (q1.1, q1.2)
set_option maxHeartbeats 4000000 in
theorem sJ12_checkBoundsOffCount {γ : GP} (hγ : GOK γ) (l0 : Int32) (l1 : Int32) (l2 : Int32) (σ : Hp) (q : (Int32 × Hp)) (h : J12_checkBoundsOffCount l0 l1 l2 σ = some q) : Rn γ mJ12_checkBoundsOffCount yJ12_checkBoundsOffCount [.int l0, .int l1, .int l2] (σ, .inr (some (.int q.1)), q.2) := by
  refine J_m hγ ykJ12_checkBoundsOffCount rfl [(1, .int l0), (1, .int l1), (1, .int l2)] (cats_i (cats_i (cats_i cats_nil))) (Nat.le_of_ble_eq_true rfl) ?_
  show J γ mJ12_checkBoundsOffCount _ σ 0 [(0, 1, .int l0), (1, 1, .int l1), (2, 1, .int l2)] []
  unfold J12_checkBoundsOffCount at h
  refine J_iload_n (i := 0) 0 1 dJ12_checkBoundsOffCount_0 rfl rfl rfl ?_
  refine J_iload_n (i := 1) 1 2 dJ12_checkBoundsOffCount_1 rfl rfl rfl ?_
  refine J_iload_n (i := 2) 2 3 dJ12_checkBoundsOffCount_2 rfl rfl rfl ?_
  refine J_gets (k := 5) (by decide) q878 6 dJ12_checkBoundsOffCount_3 rfl ?_
  obtain ⟨q1, hq1, h⟩ := some_of_bind h
  refine J_cSi 9 dJ12_checkBoundsOffCount_6 rfl ykJ4_checkFromIndexSize (Or.inl q880) q881 (Nat.le_of_ble_eq_true rfl) cs_nil (by decide) [.int l0, .int l1, .int l2, va_rf (hst σ 5)] rfl rfl (sJ4_checkFromIndexSize hγ l0 l1 l2 (hst σ 5) σ q1 hq1) ?_
  exact J_iret rfl dJ12_checkBoundsOffCount_9 (retI h)
abbrev mJ15_checkBoundsOffCount : MP := (cJ15_checkBoundsOffCount, "java/lang/StringUTF16", 3, (Option.none : Option FieldType), 3, "checkBoundsOffCount", [])
theorem ykJ15_checkBoundsOffCount : YK yJ15_checkBoundsOffCount mJ15_checkBoundsOffCount 3 := ⟨q871, q152, ⟨by decide, by decide⟩, by decide +kernel, Nat.le_of_ble_eq_true rfl, by decide, rfl, rfl⟩
def J15_checkBoundsOffCount (l0 : Int32) (l1 : Int32) (l2 : Option Nat) (σ : Hp) : Option Hp :=
  (J15_length l2 σ).bind fun q1 =>
  (J12_checkBoundsOffCount l0 l1 q1.1 q1.2).bind fun q2 =>
  some q2.2
set_option maxHeartbeats 4000000 in
theorem sJ15_checkBoundsOffCount {γ : GP} (hγ : GOK γ) (l0 : Int32) (l1 : Int32) (l2 : Option Nat) (σ : Hp) (q : Hp) (h : J15_checkBoundsOffCount l0 l1 l2 σ = some q) : Rn γ mJ15_checkBoundsOffCount yJ15_checkBoundsOffCount [.int l0, .int l1, va_rf l2] (σ, .inr none, q) := by
  refine J_m hγ ykJ15_checkBoundsOffCount rfl [(1, .int l0), (1, .int l1), (1, va_rf l2)] (cats_i (cats_i (cats_r cats_nil))) (Nat.le_of_ble_eq_true rfl) ?_
  show J γ mJ15_checkBoundsOffCount _ σ 0 [(0, 1, .int l0), (1, 1, .int l1), (2, 1, va_rf l2)] []
  unfold J15_checkBoundsOffCount at h
  refine J_iload_n (i := 0) 0 1 dJ15_checkBoundsOffCount_0 rfl rfl rfl ?_
  refine J_iload_n (i := 1) 1 2 dJ15_checkBoundsOffCount_1 rfl rfl rfl ?_
  refine J_aload_n (i := 2) 2 3 dJ15_checkBoundsOffCount_2 rfl rfl rfl ?_
  obtain ⟨q1, hq1, h⟩ := some_of_bind h
  refine J_cSi 6 dJ15_checkBoundsOffCount_3 rfl ykJ15_length (Or.inl q872) q873 (Nat.le_of_ble_eq_true rfl) (cs_int (cs_int cs_nil)) (by decide) [va_rf l2] rfl rfl (sJ15_length hγ l2 σ q1 hq1) ?_
  obtain ⟨q2, hq2, h⟩ := some_of_bind h
  refine J_cSi 9 dJ15_checkBoundsOffCount_6 rfl ykJ12_checkBoundsOffCount (Or.inl q875) q876 (Nat.le_of_ble_eq_true rfl) cs_nil (by decide) [.int l0, .int l1, .int q1.1] rfl rfl (sJ12_checkBoundsOffCount hγ l0 l1 q1.1 q1.2 q2 hq2) ?_
  refine J_popi 10 dJ15_checkBoundsOffCount_9 rfl ?_
  exact J_vret rfl dJ15_checkBoundsOffCount_10 (retV h)
abbrev mJ15_compress_2 : MP := (cJ15_compress_2, "java/lang/StringUTF16", 7, (Option.some FieldType.int), 4, "compress", [])
theorem ykJ15_compress_2 : YK yJ15_compress_2 mJ15_compress_2 5 := ⟨q958, q152, ⟨by decide, by decide⟩, by decide +kernel, Nat.le_of_ble_eq_true rfl, by decide, rfl, rfl⟩
def J15_compress_2_c10 (l0 : Option Nat) (l2 : Option Nat) (l4 : Int32)  : Nat → Int32 → Int32 → Int32 → Hp → Option (Int32 × Hp)
  | 0, _, _, _, _ => none
  | n + 1, l1, l3, l5, σ =>
    if l4 ≤ l5 then
      some (l4, σ)
    else
      (J15_getChar l0 l1 σ).bind fun q2 =>
      if q2.1 ≤ (255 : Int32) then
        (sI 2 q2.2 l2 l3 q2.1.toInt8.toInt32).bind fun σ4 =>
        J15_compress_2_c10 l0 l2 l4 n (l1 + (1 : Int32)) (l3 + (1 : Int32)) (l5 + (1 : Int32)) σ4
      else
        some (l5, q2.2)
set_option maxHeartbeats 4000000 in
theorem jJ15_compress_2_c10 {γ : GP} {σ0 : Hp} {q : (Int32 × Hp)} (hγ : GOK γ) (l0 : Option Nat) (l2 : Option Nat) (l4 : Int32)  : ∀ (n : Nat) (l1 : Int32) (l3 : Int32) (l5 : Int32) (σ : Hp), J15_compress_2_c10 l0 l2 l4 n l1 l3 l5 σ = some q → J γ mJ15_compress_2 (σ0, .inr (some (.int q.1)), q.2) σ 10 [(0, 1, va_rf l0), (1, 1, .int l1), (2, 1, va_rf l2), (3, 1, .int l3), (4, 1, .int l4), (5, 1, .int l5)] [] := by
  intro n
  induction n with
  | zero => intro l1 l3 l5 σ h; exact nomatch (show none = some q from h)
  | succ n ih =>
    intro l1 l3 l5 σ h
    rw [J15_compress_2_c10] at h
    refine J_iload (i := 5) 5 12 dJ15_compress_2_10 rfl rfl ?_
    refine J_iload (i := 4) 4 14 dJ15_compress_2_12 rfl rfl ?_
    refine J_icmp_ge 53 17 dJ15_compress_2_14 (by decide) rfl (fun c1 => ?_) (fun c1 => ?_)
    · rw [if_pos c1] at h
      refine J_iload (i := 4) 4 55 dJ15_compress_2_53 rfl rfl ?_
      exact J_iret rfl dJ15_compress_2_55 (retI h)
    · rw [if_neg c1] at h
      refine J_aload_n (i := 0) 0 18 dJ15_compress_2_17 rfl rfl rfl ?_
      refine J_iload_n (i := 1) 1 19 dJ15_compress_2_18 rfl rfl rfl ?_
      obtain ⟨q2, hq2, h⟩ := some_of_bind h
      refine J_cSi 22 dJ15_compress_2_19 rfl ykJ15_getChar (Or.inl q959) q960 (Nat.le_of_ble_eq_true rfl) cs_nil (by decide) [va_rf l0, .int l1] rfl rfl (sJ15_getChar hγ l0 l1 σ q2 hq2) ?_
      refine J_istore (i := 6) 24 [(6, 1, .int q2.1), (0, 1, va_rf l0), (1, 1, .int l1), (2, 1, va_rf l2), (3, 1, .int l3), (4, 1, .int l4), (5, 1, .int l5)] dJ15_compress_2_22 rfl (Nat.le_of_ble_eq_true rfl) rfl ?_
      refine J_iload (i := 6) 0 26 dJ15_compress_2_24 rfl rfl ?_
      refine J_sipush 29 dJ15_compress_2_26 rfl (255 : Int32) ksp_255 ?_
      refine J_icmp_le 35 32 dJ15_compress_2_29 (by decide) rfl (fun c3 => ?_) (fun c3 => ?_)
      · rw [if_pos c3] at h
        refine J_aload_n (i := 2) 3 36 dJ15_compress_2_35 rfl rfl rfl ?_
        refine J_iload_n (i := 3) 4 37 dJ15_compress_2_36 rfl rfl rfl ?_
        refine J_iload (i := 6) 0 39 dJ15_compress_2_37 rfl rfl ?_
        refine J_i2b 40 dJ15_compress_2_39 rfl ?_
        obtain ⟨σ4, hσ4, h⟩ := some_of_bind h
        refine J_bast 41 dJ15_compress_2_40 rfl hσ4 ?_
        refine J_iinc (i := 1) (v := l1 + (1 : Int32)) 2 44 [(1, 1, .int (l1 + (1 : Int32))), (6, 1, .int q2.1), (0, 1, va_rf l0), (2, 1, va_rf l2), (3, 1, .int l3), (4, 1, .int l4), (5, 1, .int l5)] dJ15_compress_2_41 rfl rfl (Nat.le_of_ble_eq_true rfl) (by rw [kic_1]) rfl ?_
        refine J_iinc (i := 3) (v := l3 + (1 : Int32)) 4 47 [(3, 1, .int (l3 + (1 : Int32))), (1, 1, .int (l1 + (1 : Int32))), (6, 1, .int q2.1), (0, 1, va_rf l0), (2, 1, va_rf l2), (4, 1, .int l4), (5, 1, .int l5)] dJ15_compress_2_44 rfl rfl (Nat.le_of_ble_eq_true rfl) (by rw [kic_1]) rfl ?_
        refine J_iinc (i := 5) (v := l5 + (1 : Int32)) 6 50 [(5, 1, .int (l5 + (1 : Int32))), (3, 1, .int (l3 + (1 : Int32))), (1, 1, .int (l1 + (1 : Int32))), (6, 1, .int q2.1), (0, 1, va_rf l0), (2, 1, va_rf l2), (4, 1, .int l4)] dJ15_compress_2_47 rfl rfl (Nat.le_of_ble_eq_true rfl) (by rw [kic_1]) rfl ?_
        refine J_goto 10 dJ15_compress_2_50 (by decide) ?_
        refine J.pick [4, 2, 5, 1, 6, 0] rfl ?_
        exact ih (l1 + (1 : Int32)) (l3 + (1 : Int32)) (l5 + (1 : Int32)) σ4 h
      · rw [if_neg c3] at h
        refine J_iload (i := 5) 6 34 dJ15_compress_2_32 rfl rfl ?_
        exact J_iret rfl dJ15_compress_2_34 (retI h)
def J15_compress_2 (l0 : Option Nat) (l1 : Int32) (l2 : Option Nat) (l3 : Int32) (l4 : Int32) (σ : Hp) : Option (Int32 × Hp) :=
  (J15_checkBoundsOffCount l1 l4 l0 σ).bind fun q1 =>
  J15_compress_2_c10 l0 l2 l4  FUEL l1 l3 (0 : Int32) q1
set_option maxHeartbeats 4000000 in
theorem sJ15_compress_2 {γ : GP} (hγ : GOK γ) (l0 : Option Nat) (l1 : Int32) (l2 : Option Nat) (l3 : Int32) (l4 : Int32) (σ : Hp) (q : (Int32 × Hp)) (h : J15_compress_2 l0 l1 l2 l3 l4 σ = some q) : Rn γ mJ15_compress_2 yJ15_compress_2 [va_rf l0, .int l1, va_rf l2, .int l3, .int l4] (σ, .inr (some (.int q.1)), q.2) := by
  refine J_m hγ ykJ15_compress_2 rfl [(1, va_rf l0), (1, .int l1), (1, va_rf l2), (1, .int l3), (1, .int l4)] (cats_r (cats_i (cats_r (cats_i (cats_i cats_nil))))) (Nat.le_of_ble_eq_true rfl) ?_
  show J γ mJ15_compress_2 _ σ 0 [(0, 1, va_rf l0), (1, 1, .int l1), (2, 1, va_rf l2), (3, 1, .int l3), (4, 1, .int l4)] []
  unfold J15_compress_2 at h
  refine J_iload_n (i := 1) 1 1 dJ15_compress_2_0 rfl rfl rfl ?_
  refine J_iload (i := 4) 4 3 dJ15_compress_2_1 rfl rfl ?_
  refine J_aload_n (i := 0) 0 4 dJ15_compress_2_3 rfl rfl rfl ?_
  obtain ⟨q1, hq1, h⟩ := some_of_bind h
  refine J_cSv 7 dJ15_compress_2_4 rfl ykJ15_checkBoundsOffCount (Or.inl q869) q870 (Nat.le_of_ble_eq_true rfl) cs_nil (by decide) [.int l1, .int l4, va_rf l0] rfl rfl (sJ15_checkBoundsOffCount hγ l1 l4 l0 σ q1 hq1) ?_
  refine J_ic 8 dJ15_compress_2_7 rfl (0 : Int32) kic_0 ?_
  refine J_istore (i := 5) 10 [(5, 1, .int (0 : Int32)), (0, 1, va_rf l0), (1, 1, .int l1), (2, 1, va_rf l2), (3, 1, .int l3), (4, 1, .int l4)] dJ15_compress_2_8 rfl (Nat.le_of_ble_eq_true rfl) rfl ?_
  refine J.pick [1, 2, 3, 4, 5, 0] rfl ?_
  refine jJ15_compress_2_c10 hγ l0 l2 l4  FUEL l1 l3 (0 : Int32) q1 h
abbrev mJ15_newBytesLength : MP := (cJ15_newBytesLength, "java/lang/StringUTF16", 1, (Option.some FieldType.int), 1, "newBytesLength", [])
theorem ykJ15_newBytesLength : YK yJ15_newBytesLength mJ15_newBytesLength 1 := ⟨q800, q152, ⟨by decide, by decide⟩, by decide +kernel, Nat.le_of_ble_eq_true rfl, by decide, rfl, rfl⟩
def J15_newBytesLength (l0 : Int32) (σ : Hp) : Option (Int32 × Hp) :=
  if 0 ≤ l0 then
    if l0 < (1073741823 : Int32) then
      some ((l0 <<< ((1 : Int32) &&& 31)), σ)
    else
      none
  else
    none
set_option maxHeartbeats 4000000 in
theorem sJ15_newBytesLength {γ : GP} (hγ : GOK γ) (l0 : Int32) (σ : Hp) (q : (Int32 × Hp)) (h : J15_newBytesLength l0 σ = some q) : Rn γ mJ15_newBytesLength yJ15_newBytesLength [.int l0] (σ, .inr (some (.int q.1)), q.2) := by
  refine J_m hγ ykJ15_newBytesLength rfl [(1, .int l0)] (cats_i cats_nil) (Nat.le_of_ble_eq_true rfl) ?_
  show J γ mJ15_newBytesLength _ σ 0 [(0, 1, .int l0)] []
  unfold J15_newBytesLength at h
  refine J_iload_n (i := 0) 0 1 dJ15_newBytesLength_0 rfl rfl rfl ?_
  refine J_if_ge 12 4 dJ15_newBytesLength_1 (by decide) rfl (fun c1 => ?_) (fun c1 => ?_)
  · rw [if_pos c1] at h
    refine J_iload_n (i := 0) 0 13 dJ15_newBytesLength_12 rfl rfl rfl ?_
    refine J_ldc (v := (1073741823 : Int32)) 15 dJ15_newBytesLength_13 rfl q801 ?_
    refine J_icmp_lt 55 18 dJ15_newBytesLength_15 (by decide) rfl (fun c2 => ?_) (fun c2 => ?_)
    · rw [if_pos c2] at h
      refine J_iload_n (i := 0) 0 56 dJ15_newBytesLength_55 rfl rfl rfl ?_
      refine J_ic 57 dJ15_newBytesLength_56 rfl (1 : Int32) kic_1 ?_
      refine J_ishl 58 dJ15_newBytesLength_57 rfl ?_
      exact J_iret rfl dJ15_newBytesLength_58 (retI h)
    · rw [if_neg c2] at h
      cases h
  · rw [if_neg c1] at h
    cases h
abbrev mJ15_compress : MP := (cJ15_compress, "java/lang/StringUTF16", 6, (Option.some (FieldType.array FieldType.byte)), 5, "compress", [])
theorem ykJ15_compress : YK yJ15_compress mJ15_compress 3 := ⟨q955, q152, ⟨by decide, by decide⟩, by decide +kernel, Nat.le_of_ble_eq_true rfl, by decide, rfl, rfl⟩
def J15_compress (l0 : Option Nat) (l1 : Int32) (l2 : Int32) (σ : Hp) : Option (Option Nat × Hp) :=
  (nA 2 σ l2).bind fun σ1 =>
  (J15_compress_2 l0 l1 (some (hsz σ)) (0 : Int32) l2 σ1).bind fun q2 =>
  if q2.1 = l2 then
    some ((some (hsz σ)), q2.2)
  else
    (J15_newBytesLength (l1 + l2) q2.2).bind fun q4 =>
    (J6_copyOfRange l0 (l1 <<< ((1 : Int32) &&& 31)) q4.1 q4.2).bind fun q5 =>
    (J15_getChar q5.1 q2.1 q5.2).bind fun q6 =>
    if (255 : Int32) < q6.1 then
      some (q5.1, q6.2)
    else
      (J15_compress_2 q5.1 (0 : Int32) (some (hsz σ)) (0 : Int32) l2 q6.2).bind fun q8 =>
      if q8.1 = l2 then
        some ((some (hsz σ)), q8.2)
      else
        some (q5.1, q8.2)
set_option maxHeartbeats 4000000 in
theorem sJ15_compress {γ : GP} (hγ : GOK γ) (l0 : Option Nat) (l1 : Int32) (l2 : Int32) (σ : Hp) (q : (Option Nat × Hp)) (h : J15_compress l0 l1 l2 σ = some q) : Rn γ mJ15_compress yJ15_compress [va_rf l0, .int l1, .int l2] (σ, .inr (some (va_rf q.1)), q.2) := by
  refine J_m hγ ykJ15_compress rfl [(1, va_rf l0), (1, .int l1), (1, .int l2)] (cats_r (cats_i (cats_i cats_nil))) (Nat.le_of_ble_eq_true rfl) ?_
  show J γ mJ15_compress _ σ 0 [(0, 1, va_rf l0), (1, 1, .int l1), (2, 1, .int l2)] []
  unfold J15_compress at h
  refine J_iload_n (i := 2) 2 1 dJ15_compress_0 rfl rfl rfl ?_
  obtain ⟨σ1, hσ1, h⟩ := some_of_bind h
  refine J_newB 3 dJ15_compress_1 rfl hσ1 ?_
  refine J_astore_n (i := 3) 4 [(3, 1, va_rf (some (hsz σ))), (0, 1, va_rf l0), (1, 1, .int l1), (2, 1, .int l2)] dJ15_compress_3 rfl rfl (Nat.le_of_ble_eq_true rfl) rfl ?_
  refine J_aload_n (i := 0) 1 5 dJ15_compress_4 rfl rfl rfl ?_
  refine J_iload_n (i := 1) 2 6 dJ15_compress_5 rfl rfl rfl ?_
  refine J_aload_n (i := 3) 0 7 dJ15_compress_6 rfl rfl rfl ?_
  refine J_ic 8 dJ15_compress_7 rfl (0 : Int32) kic_0 ?_
  refine J_iload_n (i := 2) 3 9 dJ15_compress_8 rfl rfl rfl ?_
  obtain ⟨q2, hq2, h⟩ := some_of_bind h
  refine J_cSi 12 dJ15_compress_9 rfl ykJ15_compress_2 (Or.inl q956) q957 (Nat.le_of_ble_eq_true rfl) cs_nil (by decide) [va_rf l0, .int l1, va_rf (some (hsz σ)), .int (0 : Int32), .int l2] rfl rfl (sJ15_compress_2 hγ l0 l1 (some (hsz σ)) (0 : Int32) l2 σ1 q2 hq2) ?_
  refine J_istore (i := 4) 14 [(4, 1, .int q2.1), (3, 1, va_rf (some (hsz σ))), (0, 1, va_rf l0), (1, 1, .int l1), (2, 1, .int l2)] dJ15_compress_12 rfl (Nat.le_of_ble_eq_true rfl) rfl ?_
  refine J_iload (i := 4) 0 16 dJ15_compress_14 rfl rfl ?_
  refine J_iload_n (i := 2) 4 17 dJ15_compress_16 rfl rfl rfl ?_
  refine J_icmp_eq 64 20 dJ15_compress_17 (by decide) rfl (fun c3 => ?_) (fun c3 => ?_)
  · rw [if_pos c3] at h
    refine J_aload_n (i := 3) 1 65 dJ15_compress_64 rfl rfl rfl ?_
    exact J_aret rfl (Or.inr ⟨_, rfl⟩) dJ15_compress_65 (retR h)
  · rw [if_neg c3] at h
    refine J_aload_n (i := 0) 2 21 dJ15_compress_20 rfl rfl rfl ?_
    refine J_iload_n (i := 1) 3 22 dJ15_compress_21 rfl rfl rfl ?_
    refine J_ic 23 dJ15_compress_22 rfl (1 : Int32) kic_1 ?_
    refine J_ishl 24 dJ15_compress_23 rfl ?_
    refine J_iload_n (i := 1) 3 25 dJ15_compress_24 rfl rfl rfl ?_
    refine J_iload_n (i := 2) 4 26 dJ15_compress_25 rfl rfl rfl ?_
    refine J_iadd 27 dJ15_compress_26 rfl ?_
    obtain ⟨q4, hq4, h⟩ := some_of_bind h
    refine J_cSi 30 dJ15_compress_27 rfl ykJ15_newBytesLength (Or.inl q798) q799 (Nat.le_of_ble_eq_true rfl) (cs_int (cs_rf cs_nil)) (by decide) [.int (l1 + l2)] rfl rfl (sJ15_newBytesLength hγ (l1 + l2) q2.2 q4 hq4) ?_
    obtain ⟨q5, hq5, h⟩ := some_of_bind h
    refine J_cSr 33 dJ15_compress_30 rfl ykJ6_copyOfRange (Or.inl q962) q944 (Nat.le_of_ble_eq_true rfl) cs_nil (by decide) [va_rf l0, .int (l1 <<< ((1 : Int32) &&& 31)), .int q4.1] rfl rfl (sJ6_copyOfRange hγ l0 (l1 <<< ((1 : Int32) &&& 31)) q4.1 q4.2 q5 hq5) ?_
    refine J_astore (i := 5) 35 [(5, 1, va_rf q5.1), (4, 1, .int q2.1), (3, 1, va_rf (some (hsz σ))), (0, 1, va_rf l0), (1, 1, .int l1), (2, 1, .int l2)] dJ15_compress_33 rfl (Nat.le_of_ble_eq_true rfl) rfl ?_
    refine J_aload (i := 5) 0 37 dJ15_compress_35 rfl rfl ?_
    refine J_iload (i := 4) 1 39 dJ15_compress_37 rfl rfl ?_
    obtain ⟨q6, hq6, h⟩ := some_of_bind h
    refine J_cSi 42 dJ15_compress_39 rfl ykJ15_getChar (Or.inl q959) q960 (Nat.le_of_ble_eq_true rfl) cs_nil (by decide) [va_rf q5.1, .int q2.1] rfl rfl (sJ15_getChar hγ q5.1 q2.1 q5.2 q6 hq6) ?_
    refine J_sipush 45 dJ15_compress_42 rfl (255 : Int32) ksp_255 ?_
    refine J_icmp_gt 61 48 dJ15_compress_45 (by decide) rfl (fun c7 => ?_) (fun c7 => ?_)
    · rw [if_pos c7] at h
      refine J_aload (i := 5) 0 63 dJ15_compress_61 rfl rfl ?_
      exact J_aret rfl (Or.inr ⟨_, rfl⟩) dJ15_compress_63 (retR h)
    · rw [if_neg c7] at h
      refine J_aload (i := 5) 0 50 dJ15_compress_48 rfl rfl ?_
      refine J_ic 51 dJ15_compress_50 rfl (0 : Int32) kic_0 ?_
      refine J_aload_n (i := 3) 2 52 dJ15_compress_51 rfl rfl rfl ?_
      refine J_ic 53 dJ15_compress_52 rfl (0 : Int32) kic_0 ?_
      refine J_iload_n (i := 2) 5 54 dJ15_compress_53 rfl rfl rfl ?_
      obtain ⟨q8, hq8, h⟩ := some_of_bind h
      refine J_cSi 57 dJ15_compress_54 rfl ykJ15_compress_2 (Or.inl q956) q957 (Nat.le_of_ble_eq_true rfl) cs_nil (by decide) [va_rf q5.1, .int (0 : Int32), va_rf (some (hsz σ)), .int (0 : Int32), .int l2] rfl rfl (sJ15_compress_2 hγ q5.1 (0 : Int32) (some (hsz σ)) (0 : Int32) l2 q6.2 q8 hq8) ?_
      refine J_iload_n (i := 2) 5 58 dJ15_compress_57 rfl rfl rfl ?_
      refine J_icmp_eq 64 61 dJ15_compress_58 (by decide) rfl (fun c9 => ?_) (fun c9 => ?_)
      · rw [if_pos c9] at h
        refine J_aload_n (i := 3) 2 65 dJ15_compress_64 rfl rfl rfl ?_
        exact J_aret rfl (Or.inr ⟨_, rfl⟩) dJ15_compress_65 (retR h)
      · rw [if_neg c9] at h
        refine J_aload (i := 5) 0 63 dJ15_compress_61 rfl rfl ?_
        exact J_aret rfl (Or.inr ⟨_, rfl⟩) dJ15_compress_63 (retR h)
abbrev mJ15_coderFromArrayLen : MP := (cJ15_coderFromArrayLen, "java/lang/StringUTF16", 2, (Option.some FieldType.byte), 0, "coderFromArrayLen", [])
theorem ykJ15_coderFromArrayLen : YK yJ15_coderFromArrayLen mJ15_coderFromArrayLen 2 := ⟨q965, q152, ⟨by decide, by decide⟩, by decide +kernel, Nat.le_of_ble_eq_true rfl, by decide, rfl, rfl⟩
def J15_coderFromArrayLen (l0 : Option Nat) (l1 : Int32) (σ : Hp) : Option (Int32 × Hp) :=
  (aN σ l0).bind fun v1 =>
  rN .byte ((iush (l1 - v1) (31 : Int32)).toInt8.toInt32) σ
set_option maxHeartbeats 4000000 in
theorem sJ15_coderFromArrayLen {γ : GP} (hγ : GOK γ) (l0 : Option Nat) (l1 : Int32) (σ : Hp) (q : (Int32 × Hp)) (h : J15_coderFromArrayLen l0 l1 σ = some q) : Rn γ mJ15_coderFromArrayLen yJ15_coderFromArrayLen [va_rf l0, .int l1] (σ, .inr (some (.int q.1)), q.2) := by
  refine J_m hγ ykJ15_coderFromArrayLen rfl [(1, va_rf l0), (1, .int l1)] (cats_r (cats_i cats_nil)) (Nat.le_of_ble_eq_true rfl) ?_
  show J γ mJ15_coderFromArrayLen _ σ 0 [(0, 1, va_rf l0), (1, 1, .int l1)] []
  unfold J15_coderFromArrayLen at h
  refine J_iload_n (i := 1) 1 1 dJ15_coderFromArrayLen_0 rfl rfl rfl ?_
  refine J_aload_n (i := 0) 0 2 dJ15_coderFromArrayLen_1 rfl rfl rfl ?_
  obtain ⟨v1, hv1, h⟩ := some_of_bind h
  refine J_alen 3 dJ15_coderFromArrayLen_2 rfl hv1 ?_
  refine J_isub 4 dJ15_coderFromArrayLen_3 rfl ?_
  refine J_bipush 6 dJ15_coderFromArrayLen_4 rfl (31 : Int32) kbp_31 ?_
  refine J_iushr 7 dJ15_coderFromArrayLen_6 rfl ?_
  refine J_i2b 8 dJ15_coderFromArrayLen_7 rfl ?_
  exact J_nret rfl (ite_some h).1 rfl dJ15_coderFromArrayLen_8 (retN h)
abbrev mJ12_init_2 : MP := (cJ12_init_2, "java/lang/String", 5, (Option.none : Option FieldType), 6, "<init>", [])
theorem ykJ12_init_2 : YK yJ12_init_2 mJ12_init_2 2 := ⟨q927, q148, ⟨by decide, by decide⟩, by decide +kernel, Nat.le_of_ble_eq_true rfl, by decide, rfl, rfl⟩
theorem pk_s_377 : POK "java/lang/String" "<init>" 15 [34] 1 .byte := POK.one (by decide) rfl (Nat.le_of_ble_eq_true rfl) (Or.inl ⟨_, q967, Or.inl rfl⟩) rfl (by decide +kernel) (Or.inr ⟨rfl, rfl, rfl, _, q967, Or.inl rfl⟩)
theorem pk_s_378 : POK "java/lang/String" "<init>" 9 [34] 0 (.array .byte) := POK.one (by decide) rfl (Nat.le_of_ble_eq_true rfl) (Or.inl ⟨_, q966, Or.inl rfl⟩) rfl (by decide +kernel) (Or.inr ⟨rfl, rfl, rfl, _, q966, Or.inl rfl⟩)
theorem fk_s_379 : FOK "java/lang/String" 1048 [35] 2 isI := FOK.one (by decide) rfl (Nat.le_of_ble_eq_true rfl) (Or.inl ⟨_, q804, Or.inl rfl⟩) rfl
def J12_init_2_c79  (l0 : Option Nat) (l3 : Option Nat) (l4 : Int32)  (σ : Hp) : Option Hp :=
  (pB σ l0 [34] 1 (1 : Int32)).bind fun σ1 =>
  (J6_copyOfRange l3 (0 : Int32) (l4 <<< ((1 : Int32) &&& 31)) σ1).bind fun q2 =>
  (pR q2.2 l0 [34] 0 q2.1).bind fun σ3 =>
  some σ3
set_option maxHeartbeats 4000000 in
theorem jJ12_init_2_c79 {γ : GP} {σ0 : Hp} {q : Hp} (hγ : GOK γ) (l0 : Option Nat) (l3 : Option Nat) (l4 : Int32)   (σ : Hp) (h : J12_init_2_c79 l0 l3 l4 σ = some q) : J γ mJ12_init_2 (σ0, .inr none, q) σ 79 [(0, 1, va_rf l0), (3, 1, va_rf l3), (4, 1, .int l4)] [] := by
  unfold J12_init_2_c79 at h
  refine J_aload_n (i := 0) 0 80 dJ12_init_2_79 rfl rfl rfl ?_
  refine J_ic 81 dJ12_init_2_80 rfl (1 : Int32) kic_1 ?_
  obtain ⟨σ1, hσ1, h⟩ := some_of_bind h
  refine J_pB 84 dJ12_init_2_81 rfl pk_s_377 hσ1 ?_
  refine J_aload_n (i := 0) 0 85 dJ12_init_2_84 rfl rfl rfl ?_
  refine J_aload_n (i := 3) 1 86 dJ12_init_2_85 rfl rfl rfl ?_
  refine J_ic 87 dJ12_init_2_86 rfl (0 : Int32) kic_0 ?_
  refine J_iload (i := 4) 2 89 dJ12_init_2_87 rfl rfl ?_
  refine J_ic 90 dJ12_init_2_89 rfl (1 : Int32) kic_1 ?_
  refine J_ishl 91 dJ12_init_2_90 rfl ?_
  obtain ⟨q2, hq2, h⟩ := some_of_bind h
  refine J_cSr 94 dJ12_init_2_91 rfl ykJ6_copyOfRange (Or.inl q943) q944 (Nat.le_of_ble_eq_true rfl) (cs_rf cs_nil) (by decide) [va_rf l3, .int (0 : Int32), .int (l4 <<< ((1 : Int32) &&& 31))] rfl rfl (sJ6_copyOfRange hγ l3 (0 : Int32) (l4 <<< ((1 : Int32) &&& 31)) σ1 q2 hq2) ?_
  obtain ⟨σ3, hσ3, h⟩ := some_of_bind h
  refine J_pR rfl 97 dJ12_init_2_94 rfl pk_s_378 hσ3 ?_
  exact J_vret rfl dJ12_init_2_97 (retV h)
def J12_init_2 (l0 : Option Nat) (l1 : Option Nat) (l2 : Option Nat) (σ : Hp) : Option Hp :=
  l0.bind fun b1 =>
  (cT σ l1 35).bind fun b3 =>
  (J13_getValue l1  σ).bind fun q2 =>
  (cT q2.2 l1 35).bind fun b5 =>
  (J14_length l1  q2.2).bind fun q4 =>
  (cT q4.2 l1 35).bind fun b7 =>
  (J13_isLatin1 l1  q4.2).bind fun q6 =>
  if q6.1 = 0 then
    if (1 : Int32) = 0 then
      J12_init_2_c79  l0 q2.1 q4.1  q6.2
    else
      (gI q6.2 l1 [35] 2).bind fun v10 =>
      if v10 = 0 then
        J12_init_2_c79  l0 q2.1 q4.1  q6.2
      else
        (J15_compress q2.1 (0 : Int32) q4.1 q6.2).bind fun q12 =>
        (pR q12.2 l0 [34] 0 q12.1).bind fun σ13 =>
        (gR σ13 l0 [34] 0).bind fun v14 =>
        (J15_coderFromArrayLen v14 q4.1 σ13).bind fun q15 =>
        (pB q15.2 l0 [34] 1 q15.1).bind fun σ16 =>
        some σ16
  else
    (pB q6.2 l0 [34] 1 (0 : Int32)).bind fun σ17 =>
    (J6_copyOfRange q2.1 (0 : Int32) q4.1 σ17).bind fun q18 =>
    (pR q18.2 l0 [34] 0 q18.1).bind fun σ19 =>
    some σ19
set_option maxHeartbeats 4000000 in
theorem sJ12_init_2 {γ : GP} (hγ : GOK γ) (l0 : Option Nat) (l1 : Option Nat) (l2 : Option Nat) (σ : Hp) (q : Hp) (h : J12_init_2 l0 l1 l2 σ = some q) : Rn γ mJ12_init_2 yJ12_init_2 [va_rf l0, va_rf l1, va_rf l2] (σ, .inr none, q) := by
  refine J_m hγ ykJ12_init_2 rfl [(1, va_rf l0), (1, va_rf l1), (1, va_rf l2)] (cats_r (cats_r (cats_r cats_nil))) (Nat.le_of_ble_eq_true rfl) ?_
  show J γ mJ12_init_2 _ σ 0 [(0, 1, va_rf l0), (1, 1, va_rf l1), (2, 1, va_rf l2)] []
  unfold J12_init_2 at h
  refine J_aload_n (i := 0) 0 1 dJ12_init_2_0 rfl rfl rfl ?_
  obtain ⟨b1, hb1, h⟩ := some_of_bind h
  refine J_oI hb1 q928 (Nat.le_of_ble_eq_true rfl) cs_nil (by decide) 4 dJ12_init_2_1 rfl ?_
  refine J_aload_n (i := 1) 1 5 dJ12_init_2_4 rfl rfl rfl ?_
  obtain ⟨b3, hb3, h⟩ := some_of_bind h
  obtain ⟨q2, hq2, h⟩ := some_of_bind h
  refine J_cWr 8 dJ12_init_2_5 rfl ykJ13_getValue (Or.inl q929) q930 (Nat.le_of_ble_eq_true rfl) cs_nil (by decide) [] (RC.one hb3 (by decide) rfl q932) rfl rfl (sJ13_getValue hγ l1  σ q2 hq2) ?_
  refine J_astore_n (i := 3) 9 [(3, 1, va_rf q2.1), (0, 1, va_rf l0), (1, 1, va_rf l1), (2, 1, va_rf l2)] dJ12_init_2_8 rfl rfl (Nat.le_of_ble_eq_true rfl) rfl ?_
  refine J_aload_n (i := 1) 2 10 dJ12_init_2_9 rfl rfl rfl ?_
  obtain ⟨b5, hb5, h⟩ := some_of_bind h
  obtain ⟨q4, hq4, h⟩ := some_of_bind h
  refine J_cUi (na := 0) (D := 1) 13 dJ12_init_2_10 rfl q934 q936 qd0 ⟨by decide, by decide, by decide +kernel⟩ (Nat.le_of_ble_eq_true rfl) cs_nil (by decide) [] rfl rfl (UR.of (c9 := 35) hb5 (by decide) rfl ykJ14_length q937 q938 (Nat.le_refl _) (sJ14_length hγ l1  q2.2 q4 hq4)) ?_
  refine J_istore (i := 4) 15 [(4, 1, .int q4.1), (3, 1, va_rf q2.1), (0, 1, va_rf l0), (1, 1, va_rf l1), (2, 1, va_rf l2)] dJ12_init_2_13 rfl (Nat.le_of_ble_eq_true rfl) rfl ?_
  refine J_aload_n (i := 1) 3 16 dJ12_init_2_15 rfl rfl rfl ?_
  obtain ⟨b7, hb7, h⟩ := some_of_bind h
  obtain ⟨q6, hq6, h⟩ := some_of_bind h
  refine J_cWi 19 dJ12_init_2_16 rfl ykJ13_isLatin1 (Or.inl q942) q852 (Nat.le_of_ble_eq_true rfl) cs_nil (by decide) [] (RC.one hb7 (by decide) rfl q854) rfl rfl (sJ13_isLatin1 hγ l1  q4.2 q6 hq6) ?_
  refine J_if_eq 41 22 dJ12_init_2_19 (by decide) rfl (fun c8 => ?_) (fun c8 => ?_)
  · rw [if_pos c8] at h
    refine J_getsI (x := 1) (by decide) q952 44 dJ12_init_2_41 rfl ?_
    refine J_if_eq 79 47 dJ12_init_2_44 (by decide) rfl (fun c9 => ?_) (fun c9 => ?_)
    · rw [if_pos c9] at h
      refine J.pick [2, 1, 0] rfl ?_
      exact jJ12_init_2_c79 hγ l0 q2.1 q4.1  q6.2 h
    · rw [if_neg c9] at h
      refine J_aload_n (i := 1) 3 48 dJ12_init_2_47 rfl rfl rfl ?_
      obtain ⟨v10, hv10, h⟩ := some_of_bind h
      refine J_gI 51 dJ12_init_2_48 rfl fk_s_379 hv10 ?_
      refine J_if_eq 79 54 dJ12_init_2_51 (by decide) rfl (fun c11 => ?_) (fun c11 => ?_)
      · rw [if_pos c11] at h
        refine J.pick [2, 1, 0] rfl ?_
        exact jJ12_init_2_c79 hγ l0 q2.1 q4.1  q6.2 h
      · rw [if_neg c11] at h
        refine J_aload_n (i := 0) 2 55 dJ12_init_2_54 rfl rfl rfl ?_
        refine J_aload_n (i := 3) 1 56 dJ12_init_2_55 rfl rfl rfl ?_
        refine J_ic 57 dJ12_init_2_56 rfl (0 : Int32) kic_0 ?_
        refine J_iload (i := 4) 0 59 dJ12_init_2_57 rfl rfl ?_
        obtain ⟨q12, hq12, h⟩ := some_of_bind h
        refine J_cSr 62 dJ12_init_2_59 rfl ykJ15_compress (Or.inl q953) q954 (Nat.le_of_ble_eq_true rfl) (cs_rf cs_nil) (by decide) [va_rf q2.1, .int (0 : Int32), .int q4.1] rfl rfl (sJ15_compress hγ q2.1 (0 : Int32) q4.1 q6.2 q12 hq12) ?_
        obtain ⟨σ13, hσ13, h⟩ := some_of_bind h
        refine J_pR rfl 65 dJ12_init_2_62 rfl pk_s_378 hσ13 ?_
        refine J_aload_n (i := 0) 2 66 dJ12_init_2_65 rfl rfl rfl ?_
        refine J_aload_n (i := 0) 2 67 dJ12_init_2_66 rfl rfl rfl ?_
        obtain ⟨v14, hv14, h⟩ := some_of_bind h
        refine J_gR 70 dJ12_init_2_67 rfl fk_r_315 hv14 ?_
        refine J_iload (i := 4) 0 72 dJ12_init_2_70 rfl rfl ?_
        obtain ⟨q15, hq15, h⟩ := some_of_bind h
        refine J_cSi 75 dJ12_init_2_72 rfl ykJ15_coderFromArrayLen (Or.inl q963) q964 (Nat.le_of_ble_eq_true rfl) (cs_rf cs_nil) (by decide) [va_rf v14, .int q4.1] rfl rfl (sJ15_coderFromArrayLen hγ v14 q4.1 σ13 q15 hq15) ?_
        obtain ⟨σ16, hσ16, h⟩ := some_of_bind h
        refine J_pB 78 dJ12_init_2_75 rfl pk_s_377 hσ16 ?_
        exact J_vret rfl dJ12_init_2_78 (retV h)
  · rw [if_neg c8] at h
    refine J_aload_n (i := 0) 2 23 dJ12_init_2_22 rfl rfl rfl ?_
    refine J_ic 24 dJ12_init_2_23 rfl (0 : Int32) kic_0 ?_
    obtain ⟨σ17, hσ17, h⟩ := some_of_bind h
    refine J_pB 27 dJ12_init_2_24 rfl pk_s_377 hσ17 ?_
    refine J_aload_n (i := 0) 2 28 dJ12_init_2_27 rfl rfl rfl ?_
    refine J_aload_n (i := 3) 1 29 dJ12_init_2_28 rfl rfl rfl ?_
    refine J_ic 30 dJ12_init_2_29 rfl (0 : Int32) kic_0 ?_
    refine J_iload (i := 4) 0 32 dJ12_init_2_30 rfl rfl ?_
    obtain ⟨q18, hq18, h⟩ := some_of_bind h
    refine J_cSr 35 dJ12_init_2_32 rfl ykJ6_copyOfRange (Or.inl q943) q944 (Nat.le_of_ble_eq_true rfl) (cs_rf cs_nil) (by decide) [va_rf q2.1, .int (0 : Int32), .int q4.1] rfl rfl (sJ6_copyOfRange hγ q2.1 (0 : Int32) q4.1 σ17 q18 hq18) ?_
    obtain ⟨σ19, hσ19, h⟩ := some_of_bind h
    refine J_pR rfl 38 dJ12_init_2_35 rfl pk_s_378 hσ19 ?_
    refine J_goto 97 dJ12_init_2_38 (by decide) ?_
    exact J_vret rfl dJ12_init_2_97 (retV h)
abbrev mJ12_init : MP := (cJ12_init, "java/lang/String", 2, (Option.none : Option FieldType), 7, "<init>", [])
theorem ykJ12_init : YK yJ12_init mJ12_init 1 := ⟨q924, q148, ⟨by decide, by decide⟩, by decide +kernel, Nat.le_of_ble_eq_true rfl, by decide, rfl, rfl⟩
def J12_init (l0 : Option Nat) (l1 : Option Nat) (σ : Hp) : Option Hp :=
  l0.bind fun b2 =>
  (J12_init_2 l0 l1 none σ).bind fun q1 =>
  some q1
set_option maxHeartbeats 4000000 in
theorem sJ12_init {γ : GP} (hγ : GOK γ) (l0 : Option Nat) (l1 : Option Nat) (σ : Hp) (q : Hp) (h : J12_init l0 l1 σ = some q) : Rn γ mJ12_init yJ12_init [va_rf l0, va_rf l1] (σ, .inr none, q) := by
  refine J_m hγ ykJ12_init rfl [(1, va_rf l0), (1, va_rf l1)] (cats_r (cats_r cats_nil)) (Nat.le_of_ble_eq_true rfl) ?_
  show J γ mJ12_init _ σ 0 [(0, 1, va_rf l0), (1, 1, va_rf l1)] []
  unfold J12_init at h
  refine J_aload_n (i := 0) 0 1 dJ12_init_0 rfl rfl rfl ?_
  refine J_aload_n (i := 1) 1 2 dJ12_init_1 rfl rfl rfl ?_
  refine J_null 3 dJ12_init_2 rfl ?_
  obtain ⟨b2, hb2, h⟩ := some_of_bind h
  obtain ⟨q1, hq1, h⟩ := some_of_bind h
  refine J_cI 6 dJ12_init_3 rfl ykJ12_init_2 rfl (Or.inl q925) q926 rfl (Nat.le_of_ble_eq_true rfl) cs_nil (by decide) [va_rf l1, va_rf none] hb2 rfl rfl (sJ12_init_2 hγ l0 l1 none σ q1 hq1) ?_
  exact J_vret rfl dJ12_init_6 (retV h)
abbrev mJ14_toString : MP := (cJ14_toString, "java/lang/StringBuilder", 1, (Option.some (FieldType.object "java/lang/String")), 8, "toString", [])
theorem ykJ14_toString : YK yJ14_toString mJ14_toString 0 := ⟨q920, q151, ⟨by decide, by decide⟩, by decide +kernel, Nat.le_of_ble_eq_true rfl, by decide, rfl, rfl⟩
def J14_toString (l0 : Option Nat) (σ : Hp) : Option (Option Nat × Hp) :=
  (some (hsz σ)).bind fun b2 =>
  (J12_init (some (hsz σ)) l0 (wN σ 34 0 4)).bind fun q1 =>
  some ((some (hsz σ)), q1)
set_option maxHeartbeats 4000000 in
theorem sJ14_toString {γ : GP} (hγ : GOK γ) (l0 : Option Nat) (σ : Hp) (q : (Option Nat × Hp)) (h : J14_toString l0 σ = some q) : Rn γ mJ14_toString yJ14_toString [va_rf l0] (σ, .inr (some (va_rf q.1)), q.2) := by
  refine J_m hγ ykJ14_toString rfl [(1, va_rf l0)] (cats_r cats_nil) (Nat.le_of_ble_eq_true rfl) ?_
  show J γ mJ14_toString _ σ 0 [(0, 1, va_rf l0)] []
  unfold J14_toString at h
  refine J_new (c9 := 34) (nsl := 4) rfl (by decide) (by decide +kernel) q921 q725 q148 3 dJ14_toString_0 rfl ?_
  refine J_dupr 4 dJ14_toString_3 rfl ?_
  refine J_aload_n (i := 0) 0 5 dJ14_toString_4 rfl rfl rfl ?_
  obtain ⟨b2, hb2, h⟩ := some_of_bind h
  obtain ⟨q1, hq1, h⟩ := some_of_bind h
  refine J_cI 8 dJ14_toString_5 rfl ykJ12_init rfl (Or.inl q922) q923 rfl (Nat.le_of_ble_eq_true rfl) (cs_rf cs_nil) (by decide) [va_rf l0] hb2 rfl rfl (sJ12_init hγ (some (hsz σ)) l0 (wN σ 34 0 4) q1 hq1) ?_
  exact J_aret rfl (Or.inl ⟨_, rfl⟩) dJ14_toString_8 (retR h)
def vText (x0 : Option Nat) (σ : Hp) : Option (Option Nat × Hp) := x0.bind fun a => if htg σ a = 35 then J14_toString x0 σ else none
theorem svText {γ : GP} (hγ : GOK γ) (x0 : Option Nat) (σ : Hp) (q : (Option Nat × Hp)) (h : vText x0 σ = some q) : UG γ 8 ({ cls := "java/lang/CharSequence", name := "toString", desc := "()Ljava/lang/String;" } : MethodName) 0 x0 [] (σ, .inr (some (va_rf q.1)), q.2) := by
  unfold vText at h
  obtain ⟨a, ha, h⟩ := some_of_bind h
  rcases Classical.em (htg σ a = 35) with c0 | c0
  · rw [if_pos c0] at h
    exact Or.inl (UF.of (c9 := 35) (b := a) (show cT σ x0 35 = some a by rw [ha]; exact if_pos c0) (by decide) rfl ykJ14_toString q916 q918 (show 8 ≤ 8 by omega) ⟨q908, q907, q919, q917, q915⟩ (sJ14_toString hγ x0 σ q h))
  · rw [if_neg c0] at h
    cases h
def vText2 (x0 : Option Nat) (σ : Hp) : Option (Option Nat × Hp) := x0.bind fun a => if htg σ a = 35 then J14_toString x0 σ else none
theorem svText2 {γ : GP} (hγ : GOK γ) (x0 : Option Nat) (σ : Hp) (q : (Option Nat × Hp)) (h : vText2 x0 σ = some q) : UR γ 8 ({ cls := "java/lang/Object", name := "toString", desc := "()Ljava/lang/String;" } : MethodName) 0 x0 [] (σ, .inr (some (va_rf q.1)), q.2) := by
  unfold vText2 at h
  obtain ⟨a, ha, h⟩ := some_of_bind h
  rcases Classical.em (htg σ a = 35) with c0 | c0
  · rw [if_pos c0] at h
    exact (UR.of (c9 := 35) (b := a) (show cT σ x0 35 = some a by rw [ha]; exact if_pos c0) (by decide) rfl ykJ14_toString q1801 q918 (show 8 ≤ 8 by omega) (sJ14_toString hγ x0 σ q h))
  · rw [if_neg c0] at h
    cases h
abbrev mX0_init : MP := (cX0_init, "MissCurves", 1, (Option.none : Option FieldType), 5, "<init>", [])
theorem ykX0_init : YK yX0_init mX0_init 0 := ⟨q184, q128, ⟨by decide, by decide⟩, by decide +kernel, Nat.le_of_ble_eq_true rfl, by decide, rfl, rfl⟩
theorem pk_s_380 {nm9 : String} : POK "MissCurves" nm9 22 [0] 0 (.object "MissCurves$Shop") := POK.one (by decide) rfl (Nat.le_of_ble_eq_true rfl) (Or.inl ⟨_, q380, Or.inl rfl⟩) rfl (by decide +kernel) (Or.inl rfl)
theorem pk_s_381 : POK "MissCurves" "<init>" 26 [0] 1 (.array (.object "MissCurves$Shop")) := POK.one (by decide) rfl (Nat.le_of_ble_eq_true rfl) (Or.inl ⟨_, q381, Or.inl rfl⟩) rfl (by decide +kernel) (Or.inr ⟨rfl, rfl, rfl, _, q381, Or.inl rfl⟩)
theorem pk_s_382 : POK "MissCurves" "<init>" 33 [0] 2 (.object "MissCurves$Steps") := POK.one (by decide) rfl (Nat.le_of_ble_eq_true rfl) (Or.inl ⟨_, q382, Or.inl rfl⟩) rfl (by decide +kernel) (Or.inr ⟨rfl, rfl, rfl, _, q382, Or.inl rfl⟩)
theorem pk_s_383 : POK "MissCurves" "<init>" 37 [0] 3 (.object "MissCurves$Steps") := POK.one (by decide) rfl (Nat.le_of_ble_eq_true rfl) (Or.inl ⟨_, q383, Or.inl rfl⟩) rfl (by decide +kernel) (Or.inr ⟨rfl, rfl, rfl, _, q383, Or.inl rfl⟩)
theorem pk_s_384 : POK "MissCurves" "<init>" 43 [0] 4 (.object "MissCurves$Books") := POK.one (by decide) rfl (Nat.le_of_ble_eq_true rfl) (Or.inl ⟨_, q384, Or.inl rfl⟩) rfl (by decide +kernel) (Or.inr ⟨rfl, rfl, rfl, _, q384, Or.inl rfl⟩)
theorem pk_s_385 : POK "MissCurves" "<init>" 47 [0] 5 (.object "MissCurves$Books") := POK.one (by decide) rfl (Nat.le_of_ble_eq_true rfl) (Or.inl ⟨_, q385, Or.inl rfl⟩) rfl (by decide +kernel) (Or.inr ⟨rfl, rfl, rfl, _, q385, Or.inl rfl⟩)
theorem pk_s_386 : POK "MissCurves" "<init>" 53 [0] 6 (.object "MissCurves$Asked") := POK.one (by decide) rfl (Nat.le_of_ble_eq_true rfl) (Or.inl ⟨_, q386, Or.inl rfl⟩) rfl (by decide +kernel) (Or.inr ⟨rfl, rfl, rfl, _, q386, Or.inl rfl⟩)
theorem pk_s_387 : POK "MissCurves" "<init>" 57 [0] 7 (.object "MissCurves$Asked") := POK.one (by decide) rfl (Nat.le_of_ble_eq_true rfl) (Or.inl ⟨_, q388, Or.inl rfl⟩) rfl (by decide +kernel) (Or.inr ⟨rfl, rfl, rfl, _, q388, Or.inl rfl⟩)
theorem pk_s_388 : POK "MissCurves" "<init>" 67 [0] 8 (.object "MissCurves$Text") := POK.one (by decide) rfl (Nat.le_of_ble_eq_true rfl) (Or.inl ⟨_, q389, Or.inl rfl⟩) rfl (by decide +kernel) (Or.inr ⟨rfl, rfl, rfl, _, q389, Or.inl rfl⟩)
theorem pk_s_389 : POK "MissCurves" "<init>" 71 [0] 9 (.array .int) := POK.one (by decide) rfl (Nat.le_of_ble_eq_true rfl) (Or.inl ⟨_, q390, Or.inl rfl⟩) rfl (by decide +kernel) (Or.inr ⟨rfl, rfl, rfl, _, q390, Or.inl rfl⟩)
theorem pk_s_390 {nm9 : String} : POK "MissCurves" nm9 75 [0] 11 .int := POK.one (by decide) rfl (Nat.le_of_ble_eq_true rfl) (Or.inl ⟨_, q392, Or.inl rfl⟩) rfl (by decide +kernel) (Or.inl rfl)
theorem pk_s_391 {nm9 : String} : POK "MissCurves" nm9 79 [0] 13 .int := POK.one (by decide) rfl (Nat.le_of_ble_eq_true rfl) (Or.inl ⟨_, q394, Or.inl rfl⟩) rfl (by decide +kernel) (Or.inl rfl)
theorem pk_s_392 : POK "MissCurves" "<init>" 82 [0] 14 (.array .byte) := POK.one (by decide) rfl (Nat.le_of_ble_eq_true rfl) (Or.inl ⟨_, q397, Or.inl rfl⟩) rfl (by decide +kernel) (Or.inr ⟨rfl, rfl, rfl, _, q397, Or.inl rfl⟩)
theorem pk_s_393 : POK "MissCurves" "<init>" 86 [0] 16 (.array .int) := POK.one (by decide) rfl (Nat.le_of_ble_eq_true rfl) (Or.inl ⟨_, q400, Or.inl rfl⟩) rfl (by decide +kernel) (Or.inr ⟨rfl, rfl, rfl, _, q400, Or.inl rfl⟩)
theorem pk_s_394 : POK "MissCurves" "<init>" 89 [0] 17 (.array .int) := POK.one (by decide) rfl (Nat.le_of_ble_eq_true rfl) (Or.inl ⟨_, q401, Or.inl rfl⟩) rfl (by decide +kernel) (Or.inr ⟨rfl, rfl, rfl, _, q401, Or.inl rfl⟩)
theorem pk_s_395 {nm9 : String} : POK "MissCurves" nm9 94 [0] 19 (.object "java/lang/String") := POK.one (by decide) rfl (Nat.le_of_ble_eq_true rfl) (Or.inl ⟨_, q403, Or.inl rfl⟩) rfl (by decide +kernel) (Or.inl rfl)
theorem pk_s_396 : POK "MissCurves" "<init>" 98 [0] 20 (.array .int) := POK.one (by decide) rfl (Nat.le_of_ble_eq_true rfl) (Or.inl ⟨_, q404, Or.inl rfl⟩) rfl (by decide +kernel) (Or.inr ⟨rfl, rfl, rfl, _, q404, Or.inl rfl⟩)
theorem pk_s_397 : POK "MissCurves" "<init>" 103 [0] 21 (.array (.array .long)) := POK.one (by decide) rfl (Nat.le_of_ble_eq_true rfl) (Or.inl ⟨_, q405, Or.inl rfl⟩) rfl (by decide +kernel) (Or.inr ⟨rfl, rfl, rfl, _, q405, Or.inl rfl⟩)
theorem pk_s_398 : POK "MissCurves" "<init>" 108 [0] 22 (.array (.array .int)) := POK.one (by decide) rfl (Nat.le_of_ble_eq_true rfl) (Or.inl ⟨_, q406, Or.inl rfl⟩) rfl (by decide +kernel) (Or.inr ⟨rfl, rfl, rfl, _, q406, Or.inl rfl⟩)
theorem pk_s_399 : POK "MissCurves" "<init>" 111 [0] 23 (.array (.array .int)) := POK.one (by decide) rfl (Nat.le_of_ble_eq_true rfl) (Or.inl ⟨_, q407, Or.inl rfl⟩) rfl (by decide +kernel) (Or.inr ⟨rfl, rfl, rfl, _, q407, Or.inl rfl⟩)
theorem pk_s_400 : POK "MissCurves" "<init>" 114 [0] 26 (.object "MissCurves$Books") := POK.one (by decide) rfl (Nat.le_of_ble_eq_true rfl) (Or.inl ⟨_, q412, Or.inl rfl⟩) rfl (by decide +kernel) (Or.inr ⟨rfl, rfl, rfl, _, q412, Or.inl rfl⟩)
def X0_init (l0 : Option Nat) (σ : Hp) : Option Hp :=
  l0.bind fun b1 =>
  (some (hsz σ)).bind fun b3 =>
  (X1_init (some (hsz σ))  (wN σ 1 0 7)).bind fun q2 =>
  (pR q2 l0 [0] 0 (some (hsz σ))).bind fun σ4 =>
  (nA 9 σ4 (2 : Int32)).bind fun σ5 =>
  (pR σ5 l0 [0] 1 (some (hsz σ4))).bind fun σ6 =>
  (some (hsz σ6)).bind fun b8 =>
  (X4_init (some (hsz σ6))  (wN σ6 4 0 2)).bind fun q7 =>
  (pR q7 l0 [0] 2 (some (hsz σ6))).bind fun σ9 =>
  (some (hsz σ9)).bind fun b11 =>
  (X4_init (some (hsz σ9))  (wN σ9 4 0 2)).bind fun q10 =>
  (pR q10 l0 [0] 3 (some (hsz σ9))).bind fun σ12 =>
  (some (hsz σ12)).bind fun b14 =>
  (X2_init (some (hsz σ12))  (wN σ12 2 0 3)).bind fun q13 =>
  (pR q13 l0 [0] 4 (some (hsz σ12))).bind fun σ15 =>
  (some (hsz σ15)).bind fun b17 =>
  (X2_init (some (hsz σ15))  (wN σ15 2 0 3)).bind fun q16 =>
  (pR q16 l0 [0] 5 (some (hsz σ15))).bind fun σ18 =>
  (some (hsz σ18)).bind fun b20 =>
  (X5_init (some (hsz σ18))  (wN σ18 5 0 2)).bind fun q19 =>
  (pR q19 l0 [0] 6 (some (hsz σ18))).bind fun σ21 =>
  (some (hsz σ21)).bind fun b23 =>
  (X5_init (some (hsz σ21))  (wN σ21 5 0 2)).bind fun q22 =>
  (pR q22 l0 [0] 7 (some (hsz σ21))).bind fun σ24 =>
  (nA 10 (wN σ24 6 0 1) (0 : Int32)).bind fun σ25 =>
  (some (hsz σ24)).bind fun b27 =>
  (X6_init (some (hsz σ24)) (some (hsz (wN σ24 6 0 1))) σ25).bind fun q26 =>
  (pR q26 l0 [0] 8 (some (hsz σ24))).bind fun σ28 =>
  (nA 0 σ28 (7 : Int32)).bind fun σ29 =>
  (pR σ29 l0 [0] 9 (some (hsz σ28))).bind fun σ30 =>
  (pI σ30 l0 [0] 11 (-1 : Int32)).bind fun σ31 =>
  (pI σ31 l0 [0] 13 (-1 : Int32)).bind fun σ32 =>
  (nA 2 σ32 (400 : Int32)).bind fun σ33 =>
  (pR σ33 l0 [0] 14 (some (hsz σ32))).bind fun σ34 =>
  (nA 0 σ34 (25 : Int32)).bind fun σ35 =>
  (pR σ35 l0 [0] 16 (some (hsz σ34))).bind fun σ36 =>
  (nA 0 σ36 (25 : Int32)).bind fun σ37 =>
  (pR σ37 l0 [0] 17 (some (hsz σ36))).bind fun σ38 =>
  (pR σ38 l0 [0] 19 (hst σ38 100)).bind fun σ39 =>
  (nA 0 σ39 (4 : Int32)).bind fun σ40 =>
  (pR σ40 l0 [0] 20 (some (hsz σ39))).bind fun σ41 =>
  (nM 6 1 σ41 (4 : Int32) (24 : Int32)).bind fun σ42 =>
  (pR σ42 l0 [0] 21 (some (hsz σ41))).bind fun σ43 =>
  (nM 5 0 σ43 (4 : Int32) (24 : Int32)).bind fun σ44 =>
  (pR σ44 l0 [0] 22 (some (hsz σ43))).bind fun σ45 =>
  (nM 5 0 σ45 (5 : Int32) (49 : Int32)).bind fun σ46 =>
  (pR σ46 l0 [0] 23 (some (hsz σ45))).bind fun σ47 =>
  (some (hsz σ47)).bind fun b49 =>
  (X2_init (some (hsz σ47))  (wN σ47 2 0 3)).bind fun q48 =>
  (pR q48 l0 [0] 26 (some (hsz σ47))).bind fun σ50 =>
  some σ50
set_option maxHeartbeats 4000000 in
theorem sX0_init {γ : GP} (hγ : GOK γ) (l0 : Option Nat) (σ : Hp) (q : Hp) (h : X0_init l0 σ = some q) : Rn γ mX0_init yX0_init [va_rf l0] (σ, .inr none, q) := by
  refine J_m hγ ykX0_init rfl [(1, va_rf l0)] (cats_r cats_nil) (Nat.le_of_ble_eq_true rfl) ?_
  show J γ mX0_init _ σ 0 [(0, 1, va_rf l0)] []
  unfold X0_init at h
  refine J_aload_n (i := 0) 0 1 dX0_init_0 rfl rfl rfl ?_
  obtain ⟨b1, hb1, h⟩ := some_of_bind h
  refine J_oI hb1 q185 (Nat.le_of_ble_eq_true rfl) cs_nil (by decide) 4 dX0_init_1 rfl ?_
  refine J_aload_n (i := 0) 0 5 dX0_init_4 rfl rfl rfl ?_
  refine J_new (c9 := 1) (nsl := 7) rfl (by decide) (by decide +kernel) q188 q189 q129 8 dX0_init_5 rfl ?_
  refine J_dupr 9 dX0_init_8 rfl ?_
  obtain ⟨b3, hb3, h⟩ := some_of_bind h
  obtain ⟨q2, hq2, h⟩ := some_of_bind h
  refine J_cI 12 dX0_init_9 rfl ykX1_init rfl (Or.inr ⟨_, q190⟩) q191 rfl (Nat.le_of_ble_eq_true rfl) (cs_rf (cs_rf cs_nil)) (by decide) [] hb3 rfl rfl (sX1_init hγ (some (hsz σ))  (wN σ 1 0 7) q2 hq2) ?_
  obtain ⟨σ4, hσ4, h⟩ := some_of_bind h
  refine J_pR rfl 15 dX0_init_12 rfl pk_s_380 hσ4 ?_
  refine J_aload_n (i := 0) 0 16 dX0_init_15 rfl rfl rfl ?_
  refine J_ic 17 dX0_init_16 rfl (2 : Int32) kic_2 ?_
  obtain ⟨σ5, hσ5, h⟩ := some_of_bind h
  refine J_anew 9 (by decide) (by decide) rfl q188 q321 20 dX0_init_17 rfl hσ5 ?_
  obtain ⟨σ6, hσ6, h⟩ := some_of_bind h
  refine J_pR rfl 23 dX0_init_20 rfl pk_s_381 hσ6 ?_
  refine J_aload_n (i := 0) 0 24 dX0_init_23 rfl rfl rfl ?_
  refine J_new (c9 := 4) (nsl := 2) rfl (by decide) (by decide +kernel) q322 q323 q135 27 dX0_init_24 rfl ?_
  refine J_dupr 28 dX0_init_27 rfl ?_
  obtain ⟨b8, hb8, h⟩ := some_of_bind h
  obtain ⟨q7, hq7, h⟩ := some_of_bind h
  refine J_cI 31 dX0_init_28 rfl ykX4_init rfl (Or.inl q324) q325 rfl (Nat.le_of_ble_eq_true rfl) (cs_rf (cs_rf cs_nil)) (by decide) [] hb8 rfl rfl (sX4_init hγ (some (hsz σ6))  (wN σ6 4 0 2) q7 hq7) ?_
  obtain ⟨σ9, hσ9, h⟩ := some_of_bind h
  refine J_pR rfl 34 dX0_init_31 rfl pk_s_382 hσ9 ?_
  refine J_aload_n (i := 0) 0 35 dX0_init_34 rfl rfl rfl ?_
  refine J_new (c9 := 4) (nsl := 2) rfl (by decide) (by decide +kernel) q322 q323 q135 38 dX0_init_35 rfl ?_
  refine J_dupr 39 dX0_init_38 rfl ?_
  obtain ⟨b11, hb11, h⟩ := some_of_bind h
  obtain ⟨q10, hq10, h⟩ := some_of_bind h
  refine J_cI 42 dX0_init_39 rfl ykX4_init rfl (Or.inl q324) q325 rfl (Nat.le_of_ble_eq_true rfl) (cs_rf (cs_rf cs_nil)) (by decide) [] hb11 rfl rfl (sX4_init hγ (some (hsz σ9))  (wN σ9 4 0 2) q10 hq10) ?_
  obtain ⟨σ12, hσ12, h⟩ := some_of_bind h
  refine J_pR rfl 45 dX0_init_42 rfl pk_s_383 hσ12 ?_
  refine J_aload_n (i := 0) 0 46 dX0_init_45 rfl rfl rfl ?_
  refine J_new (c9 := 2) (nsl := 3) rfl (by decide) (by decide +kernel) q340 q223 q133 49 dX0_init_46 rfl ?_
  refine J_dupr 50 dX0_init_49 rfl ?_
  obtain ⟨b14, hb14, h⟩ := some_of_bind h
  obtain ⟨q13, hq13, h⟩ := some_of_bind h
  refine J_cI 53 dX0_init_50 rfl ykX2_init rfl (Or.inl q341) q225 rfl (Nat.le_of_ble_eq_true rfl) (cs_rf (cs_rf cs_nil)) (by decide) [] hb14 rfl rfl (sX2_init hγ (some (hsz σ12))  (wN σ12 2 0 3) q13 hq13) ?_
  obtain ⟨σ15, hσ15, h⟩ := some_of_bind h
  refine J_pR rfl 56 dX0_init_53 rfl pk_s_384 hσ15 ?_
  refine J_aload_n (i := 0) 0 57 dX0_init_56 rfl rfl rfl ?_
  refine J_new (c9 := 2) (nsl := 3) rfl (by decide) (by decide +kernel) q340 q223 q133 60 dX0_init_57 rfl ?_
  refine J_dupr 61 dX0_init_60 rfl ?_
  obtain ⟨b17, hb17, h⟩ := some_of_bind h
  obtain ⟨q16, hq16, h⟩ := some_of_bind h
  refine J_cI 64 dX0_init_61 rfl ykX2_init rfl (Or.inl q341) q225 rfl (Nat.le_of_ble_eq_true rfl) (cs_rf (cs_rf cs_nil)) (by decide) [] hb17 rfl rfl (sX2_init hγ (some (hsz σ15))  (wN σ15 2 0 3) q16 hq16) ?_
  obtain ⟨σ18, hσ18, h⟩ := some_of_bind h
  refine J_pR rfl 67 dX0_init_64 rfl pk_s_385 hσ18 ?_
  refine J_aload_n (i := 0) 0 68 dX0_init_67 rfl rfl rfl ?_
  refine J_new (c9 := 5) (nsl := 2) rfl (by decide) (by decide +kernel) q342 q343 q136 71 dX0_init_68 rfl ?_
  refine J_dupr 72 dX0_init_71 rfl ?_
  obtain ⟨b20, hb20, h⟩ := some_of_bind h
  obtain ⟨q19, hq19, h⟩ := some_of_bind h
  refine J_cI 75 dX0_init_72 rfl ykX5_init rfl (Or.inr ⟨_, q344⟩) q345 rfl (Nat.le_of_ble_eq_true rfl) (cs_rf (cs_rf cs_nil)) (by decide) [] hb20 rfl rfl (sX5_init hγ (some (hsz σ18))  (wN σ18 5 0 2) q19 hq19) ?_
  obtain ⟨σ21, hσ21, h⟩ := some_of_bind h
  refine J_pR rfl 78 dX0_init_75 rfl pk_s_386 hσ21 ?_
  refine J_aload_n (i := 0) 0 79 dX0_init_78 rfl rfl rfl ?_
  refine J_new (c9 := 5) (nsl := 2) rfl (by decide) (by decide +kernel) q342 q343 q136 82 dX0_init_79 rfl ?_
  refine J_dupr 83 dX0_init_82 rfl ?_
  obtain ⟨b23, hb23, h⟩ := some_of_bind h
  obtain ⟨q22, hq22, h⟩ := some_of_bind h
  refine J_cI 86 dX0_init_83 rfl ykX5_init rfl (Or.inr ⟨_, q344⟩) q345 rfl (Nat.le_of_ble_eq_true rfl) (cs_rf (cs_rf cs_nil)) (by decide) [] hb23 rfl rfl (sX5_init hγ (some (hsz σ21))  (wN σ21 5 0 2) q22 hq22) ?_
  obtain ⟨σ24, hσ24, h⟩ := some_of_bind h
  refine J_pR rfl 89 dX0_init_86 rfl pk_s_387 hσ24 ?_
  refine J_aload_n (i := 0) 0 90 dX0_init_89 rfl rfl rfl ?_
  refine J_new (c9 := 6) (nsl := 1) rfl (by decide) (by decide +kernel) q364 q365 q137 93 dX0_init_90 rfl ?_
  refine J_dupr 94 dX0_init_93 rfl ?_
  refine J_ic 95 dX0_init_94 rfl (0 : Int32) kic_0 ?_
  obtain ⟨σ25, hσ25, h⟩ := some_of_bind h
  refine J_anew 10 (by decide) (by decide) rfl q366 q367 98 dX0_init_95 rfl hσ25 ?_
  obtain ⟨b27, hb27, h⟩ := some_of_bind h
  obtain ⟨q26, hq26, h⟩ := some_of_bind h
  refine J_cI 101 dX0_init_98 rfl ykX6_init rfl (Or.inl q368) q369 rfl (Nat.le_of_ble_eq_true rfl) (cs_rf (cs_rf cs_nil)) (by decide) [va_rf (some (hsz (wN σ24 6 0 1)))] hb27 rfl rfl (sX6_init hγ (some (hsz σ24)) (some (hsz (wN σ24 6 0 1))) σ25 q26 hq26) ?_
  obtain ⟨σ28, hσ28, h⟩ := some_of_bind h
  refine J_pR rfl 104 dX0_init_101 rfl pk_s_388 hσ28 ?_
  refine J_aload_n (i := 0) 0 105 dX0_init_104 rfl rfl rfl ?_
  refine J_bipush 107 dX0_init_105 rfl (7 : Int32) kbp_7 ?_
  obtain ⟨σ29, hσ29, h⟩ := some_of_bind h
  refine J_newI 109 dX0_init_107 rfl hσ29 ?_
  obtain ⟨σ30, hσ30, h⟩ := some_of_bind h
  refine J_pR rfl 112 dX0_init_109 rfl pk_s_389 hσ30 ?_
  refine J_aload_n (i := 0) 0 113 dX0_init_112 rfl rfl rfl ?_
  refine J_ic 114 dX0_init_113 rfl (-1 : Int32) kic_m1 ?_
  obtain ⟨σ31, hσ31, h⟩ := some_of_bind h
  refine J_pI 117 dX0_init_114 rfl pk_s_390 hσ31 ?_
  refine J_aload_n (i := 0) 0 118 dX0_init_117 rfl rfl rfl ?_
  refine J_ic 119 dX0_init_118 rfl (-1 : Int32) kic_m1 ?_
  obtain ⟨σ32, hσ32, h⟩ := some_of_bind h
  refine J_pI 122 dX0_init_119 rfl pk_s_391 hσ32 ?_
  refine J_aload_n (i := 0) 0 123 dX0_init_122 rfl rfl rfl ?_
  refine J_sipush 126 dX0_init_123 rfl (400 : Int32) ksp_400 ?_
  obtain ⟨σ33, hσ33, h⟩ := some_of_bind h
  refine J_newB 128 dX0_init_126 rfl hσ33 ?_
  obtain ⟨σ34, hσ34, h⟩ := some_of_bind h
  refine J_pR rfl 131 dX0_init_128 rfl pk_s_392 hσ34 ?_
  refine J_aload_n (i := 0) 0 132 dX0_init_131 rfl rfl rfl ?_
  refine J_bipush 134 dX0_init_132 rfl (25 : Int32) kbp_25 ?_
  obtain ⟨σ35, hσ35, h⟩ := some_of_bind h
  refine J_newI 136 dX0_init_134 rfl hσ35 ?_
  obtain ⟨σ36, hσ36, h⟩ := some_of_bind h
  refine J_pR rfl 139 dX0_init_136 rfl pk_s_393 hσ36 ?_
  refine J_aload_n (i := 0) 0 140 dX0_init_139 rfl rfl rfl ?_
  refine J_bipush 142 dX0_init_140 rfl (25 : Int32) kbp_25 ?_
  obtain ⟨σ37, hσ37, h⟩ := some_of_bind h
  refine J_newI 144 dX0_init_142 rfl hσ37 ?_
  obtain ⟨σ38, hσ38, h⟩ := some_of_bind h
  refine J_pR rfl 147 dX0_init_144 rfl pk_s_394 hσ38 ?_
  refine J_aload_n (i := 0) 0 148 dX0_init_147 rfl rfl rfl ?_
  refine J_ldcS (k := 100) (tx := "") (show (100, "MissCurves", 92, "") ∈ strl by decide) 150 dX0_init_148 rfl ?_
  obtain ⟨σ39, hσ39, h⟩ := some_of_bind h
  refine J_pR rfl 153 dX0_init_150 rfl pk_s_395 hσ39 ?_
  refine J_aload_n (i := 0) 0 154 dX0_init_153 rfl rfl rfl ?_
  refine J_ic 155 dX0_init_154 rfl (4 : Int32) kic_4 ?_
  obtain ⟨σ40, hσ40, h⟩ := some_of_bind h
  refine J_newI 157 dX0_init_155 rfl hσ40 ?_
  obtain ⟨σ41, hσ41, h⟩ := some_of_bind h
  refine J_pR rfl 160 dX0_init_157 rfl pk_s_396 hσ41 ?_
  refine J_aload_n (i := 0) 0 161 dX0_init_160 rfl rfl rfl ?_
  refine J_ic 162 dX0_init_161 rfl (4 : Int32) kic_4 ?_
  refine J_bipush 164 dX0_init_162 rfl (24 : Int32) kbp_24 ?_
  obtain ⟨σ42, hσ42, h⟩ := some_of_bind h
  refine J_multiL q377 168 dX0_init_164 rfl hσ42 ?_
  obtain ⟨σ43, hσ43, h⟩ := some_of_bind h
  refine J_pR rfl 171 dX0_init_168 rfl pk_s_397 hσ43 ?_
  refine J_aload_n (i := 0) 0 172 dX0_init_171 rfl rfl rfl ?_
  refine J_ic 173 dX0_init_172 rfl (4 : Int32) kic_4 ?_
  refine J_bipush 175 dX0_init_173 rfl (24 : Int32) kbp_24 ?_
  obtain ⟨σ44, hσ44, h⟩ := some_of_bind h
  refine J_multiI q379 179 dX0_init_175 rfl hσ44 ?_
  obtain ⟨σ45, hσ45, h⟩ := some_of_bind h
  refine J_pR rfl 182 dX0_init_179 rfl pk_s_398 hσ45 ?_
  refine J_aload_n (i := 0) 0 183 dX0_init_182 rfl rfl rfl ?_
  refine J_ic 184 dX0_init_183 rfl (5 : Int32) kic_5 ?_
  refine J_bipush 186 dX0_init_184 rfl (49 : Int32) kbp_49 ?_
  obtain ⟨σ46, hσ46, h⟩ := some_of_bind h
  refine J_multiI q379 190 dX0_init_186 rfl hσ46 ?_
  obtain ⟨σ47, hσ47, h⟩ := some_of_bind h
  refine J_pR rfl 193 dX0_init_190 rfl pk_s_399 hσ47 ?_
  refine J_aload_n (i := 0) 0 194 dX0_init_193 rfl rfl rfl ?_
  refine J_new (c9 := 2) (nsl := 3) rfl (by decide) (by decide +kernel) q340 q223 q133 197 dX0_init_194 rfl ?_
  refine J_dupr 198 dX0_init_197 rfl ?_
  obtain ⟨b49, hb49, h⟩ := some_of_bind h
  obtain ⟨q48, hq48, h⟩ := some_of_bind h
  refine J_cI 201 dX0_init_198 rfl ykX2_init rfl (Or.inl q341) q225 rfl (Nat.le_of_ble_eq_true rfl) (cs_rf (cs_rf cs_nil)) (by decide) [] hb49 rfl rfl (sX2_init hγ (some (hsz σ47))  (wN σ47 2 0 3) q48 hq48) ?_
  obtain ⟨σ50, hσ50, h⟩ := some_of_bind h
  refine J_pR rfl 204 dX0_init_201 rfl pk_s_400 hσ50 ?_
  exact J_vret rfl dX0_init_204 (retV h)
abbrev mJ15_newBytesFor : MP := (cJ15_newBytesFor, "java/lang/StringUTF16", 1, (Option.some (FieldType.array FieldType.byte)), 2, "newBytesFor", [])
theorem ykJ15_newBytesFor : YK yJ15_newBytesFor mJ15_newBytesFor 1 := ⟨q797, q152, ⟨by decide, by decide⟩, by decide +kernel, Nat.le_of_ble_eq_true rfl, by decide, rfl, rfl⟩
def J15_newBytesFor (l0 : Int32) (σ : Hp) : Option (Option Nat × Hp) :=
  (J15_newBytesLength l0 σ).bind fun q1 =>
  (nA 2 q1.2 q1.1).bind fun σ2 =>
  some ((some (hsz q1.2)), σ2)
set_option maxHeartbeats 4000000 in
theorem sJ15_newBytesFor {γ : GP} (hγ : GOK γ) (l0 : Int32) (σ : Hp) (q : (Option Nat × Hp)) (h : J15_newBytesFor l0 σ = some q) : Rn γ mJ15_newBytesFor yJ15_newBytesFor [.int l0] (σ, .inr (some (va_rf q.1)), q.2) := by
  refine J_m hγ ykJ15_newBytesFor rfl [(1, .int l0)] (cats_i cats_nil) (Nat.le_of_ble_eq_true rfl) ?_
  show J γ mJ15_newBytesFor _ σ 0 [(0, 1, .int l0)] []
  unfold J15_newBytesFor at h
  refine J_iload_n (i := 0) 0 1 dJ15_newBytesFor_0 rfl rfl rfl ?_
  obtain ⟨q1, hq1, h⟩ := some_of_bind h
  refine J_cSi 4 dJ15_newBytesFor_1 rfl ykJ15_newBytesLength (Or.inl q798) q799 (Nat.le_of_ble_eq_true rfl) cs_nil (by decide) [.int l0] rfl rfl (sJ15_newBytesLength hγ l0 σ q1 hq1) ?_
  obtain ⟨σ2, hσ2, h⟩ := some_of_bind h
  refine J_newB 6 dJ15_newBytesFor_4 rfl hσ2 ?_
  exact J_aret rfl (Or.inr ⟨_, rfl⟩) dJ15_newBytesFor_6 (retR h)
abbrev mJ13_init : MP := (cJ13_init, "java/lang/AbstractStringBuilder", 2, (Option.none : Option FieldType), 3, "<init>", [])
theorem ykJ13_init : YK yJ13_init mJ13_init 1 := ⟨q791, q150, ⟨by decide, by decide⟩, by decide +kernel, Nat.le_of_ble_eq_true rfl, by decide, rfl, rfl⟩
theorem pk_s_401 {nm9 : String} : POK "java/lang/AbstractStringBuilder" nm9 15 [35] 0 (.array .byte) := POK.one (by decide) rfl (Nat.le_of_ble_eq_true rfl) (Or.inl ⟨_, q802, Or.inl rfl⟩) rfl (by decide +kernel) (Or.inl rfl)
theorem pk_s_402 {nm9 : String} : POK "java/lang/AbstractStringBuilder" nm9 22 [35] 1 .byte := POK.one (by decide) rfl (Nat.le_of_ble_eq_true rfl) (Or.inl ⟨_, q803, Or.inl rfl⟩) rfl (by decide +kernel) (Or.inl rfl)
def J13_init (l0 : Option Nat) (l1 : Int32) (σ : Hp) : Option Hp :=
  l0.bind fun b1 =>
  if (1 : Int32) = 0 then
    (J15_newBytesFor l1 σ).bind fun q3 =>
    (pR q3.2 l0 [35] 0 q3.1).bind fun σ4 =>
    (pB σ4 l0 [35] 1 (1 : Int32)).bind fun σ5 =>
    some σ5
  else
    (nA 2 σ l1).bind fun σ6 =>
    (pR σ6 l0 [35] 0 (some (hsz σ))).bind fun σ7 =>
    (pB σ7 l0 [35] 1 (0 : Int32)).bind fun σ8 =>
    some σ8
set_option maxHeartbeats 4000000 in
theorem sJ13_init {γ : GP} (hγ : GOK γ) (l0 : Option Nat) (l1 : Int32) (σ : Hp) (q : Hp) (h : J13_init l0 l1 σ = some q) : Rn γ mJ13_init yJ13_init [va_rf l0, .int l1] (σ, .inr none, q) := by
  refine J_m hγ ykJ13_init rfl [(1, va_rf l0), (1, .int l1)] (cats_r (cats_i cats_nil)) (Nat.le_of_ble_eq_true rfl) ?_
  show J γ mJ13_init _ σ 0 [(0, 1, va_rf l0), (1, 1, .int l1)] []
  unfold J13_init at h
  refine J_aload_n (i := 0) 0 1 dJ13_init_0 rfl rfl rfl ?_
  obtain ⟨b1, hb1, h⟩ := some_of_bind h
  refine J_oI hb1 q792 (Nat.le_of_ble_eq_true rfl) cs_nil (by decide) 4 dJ13_init_1 rfl ?_
  refine J_getsI (x := 1) (by decide) q793 7 dJ13_init_4 rfl ?_
  refine J_if_eq 25 10 dJ13_init_7 (by decide) rfl (fun c2 => ?_) (fun c2 => ?_)
  · rw [if_pos c2] at h
    refine J_aload_n (i := 0) 0 26 dJ13_init_25 rfl rfl rfl ?_
    refine J_iload_n (i := 1) 1 27 dJ13_init_26 rfl rfl rfl ?_
    obtain ⟨q3, hq3, h⟩ := some_of_bind h
    refine J_cSr 30 dJ13_init_27 rfl ykJ15_newBytesFor (Or.inl q795) q796 (Nat.le_of_ble_eq_true rfl) (cs_rf cs_nil) (by decide) [.int l1] rfl rfl (sJ15_newBytesFor hγ l1 σ q3 hq3) ?_
    obtain ⟨σ4, hσ4, h⟩ := some_of_bind h
    refine J_pR rfl 33 dJ13_init_30 rfl pk_s_401 hσ4 ?_
    refine J_aload_n (i := 0) 0 34 dJ13_init_33 rfl rfl rfl ?_
    refine J_ic 35 dJ13_init_34 rfl (1 : Int32) kic_1 ?_
    obtain ⟨σ5, hσ5, h⟩ := some_of_bind h
    refine J_pB 38 dJ13_init_35 rfl pk_s_402 hσ5 ?_
    exact J_vret rfl dJ13_init_38 (retV h)
  · rw [if_neg c2] at h
    refine J_aload_n (i := 0) 0 11 dJ13_init_10 rfl rfl rfl ?_
    refine J_iload_n (i := 1) 1 12 dJ13_init_11 rfl rfl rfl ?_
    obtain ⟨σ6, hσ6, h⟩ := some_of_bind h
    refine J_newB 14 dJ13_init_12 rfl hσ6 ?_
    obtain ⟨σ7, hσ7, h⟩ := some_of_bind h
    refine J_pR rfl 17 dJ13_init_14 rfl pk_s_401 hσ7 ?_
    refine J_aload_n (i := 0) 0 18 dJ13_init_17 rfl rfl rfl ?_
    refine J_ic 19 dJ13_init_18 rfl (0 : Int32) kic_0 ?_
    obtain ⟨σ8, hσ8, h⟩ := some_of_bind h
    refine J_pB 22 dJ13_init_19 rfl pk_s_402 hσ8 ?_
    refine J_goto 38 dJ13_init_22 (by decide) ?_
    exact J_vret rfl dJ13_init_38 (retV h)
abbrev mJ14_init : MP := (cJ14_init, "java/lang/StringBuilder", 1, (Option.none : Option FieldType), 4, "<init>", [])
theorem ykJ14_init : YK yJ14_init mJ14_init 0 := ⟨q788, q151, ⟨by decide, by decide⟩, by decide +kernel, Nat.le_of_ble_eq_true rfl, by decide, rfl, rfl⟩
def J14_init (l0 : Option Nat) (σ : Hp) : Option Hp :=
  l0.bind fun b2 =>
  (J13_init l0 (16 : Int32) σ).bind fun q1 =>
  some q1
set_option maxHeartbeats 4000000 in
theorem sJ14_init {γ : GP} (hγ : GOK γ) (l0 : Option Nat) (σ : Hp) (q : Hp) (h : J14_init l0 σ = some q) : Rn γ mJ14_init yJ14_init [va_rf l0] (σ, .inr none, q) := by
  refine J_m hγ ykJ14_init rfl [(1, va_rf l0)] (cats_r cats_nil) (Nat.le_of_ble_eq_true rfl) ?_
  show J γ mJ14_init _ σ 0 [(0, 1, va_rf l0)] []
  unfold J14_init at h
  refine J_aload_n (i := 0) 0 1 dJ14_init_0 rfl rfl rfl ?_
  refine J_bipush 3 dJ14_init_1 rfl (16 : Int32) kbp_16 ?_
  obtain ⟨b2, hb2, h⟩ := some_of_bind h
  obtain ⟨q1, hq1, h⟩ := some_of_bind h
  refine J_cI 6 dJ14_init_3 rfl ykJ13_init rfl (Or.inl q789) q790 rfl (Nat.le_of_ble_eq_true rfl) cs_nil (by decide) [.int (16 : Int32)] hb2 rfl rfl (sJ13_init hγ l0 (16 : Int32) σ q1 hq1) ?_
  exact J_vret rfl dJ14_init_6 (retV h)
abbrev mJ13_newCapacity : MP := (cJ13_newCapacity, "java/lang/AbstractStringBuilder", 6, (Option.some FieldType.int), 3, "newCapacity", [])
theorem ykJ13_newCapacity : YK yJ13_newCapacity mJ13_newCapacity 1 := ⟨q829, q150, ⟨by decide, by decide⟩, by decide +kernel, Nat.le_of_ble_eq_true rfl, by decide, rfl, rfl⟩
def J13_newCapacity (l0 : Option Nat) (l1 : Int32) (σ : Hp) : Option (Int32 × Hp) :=
  (gR σ l0 [35] 0).bind fun v1 =>
  (aN σ v1).bind fun v2 =>
  (gI σ l0 [35] 1).bind fun v3 =>
  (gI σ l0 [35] 1).bind fun v4 =>
  (J16_newLength v2 ((l1 <<< (v3 &&& 31)) - v2) (v2 + ((2 : Int32) <<< (v4 &&& 31))) σ).bind fun q5 =>
  if q5.1 = (2147483647 : Int32) then
    none
  else
    (gI q5.2 l0 [35] 1).bind fun v7 =>
    some ((q5.1 >>> (v7 &&& 31)), q5.2)
set_option maxHeartbeats 4000000 in
theorem sJ13_newCapacity {γ : GP} (hγ : GOK γ) (l0 : Option Nat) (l1 : Int32) (σ : Hp) (q : (Int32 × Hp)) (h : J13_newCapacity l0 l1 σ = some q) : Rn γ mJ13_newCapacity yJ13_newCapacity [va_rf l0, .int l1] (σ, .inr (some (.int q.1)), q.2) := by
  refine J_m hγ ykJ13_newCapacity rfl [(1, va_rf l0), (1, .int l1)] (cats_r (cats_i cats_nil)) (Nat.le_of_ble_eq_true rfl) ?_
  show J γ mJ13_newCapacity _ σ 0 [(0, 1, va_rf l0), (1, 1, .int l1)] []
  unfold J13_newCapacity at h
  refine J_aload_n (i := 0) 0 1 dJ13_newCapacity_0 rfl rfl rfl ?_
  obtain ⟨v1, hv1, h⟩ := some_of_bind h
  refine J_gR 4 dJ13_newCapacity_1 rfl fk_s_374 hv1 ?_
  obtain ⟨v2, hv2, h⟩ := some_of_bind h
  refine J_alen 5 dJ13_newCapacity_4 rfl hv2 ?_
  refine J_istore_n (i := 2) 6 [(2, 1, .int v2), (0, 1, va_rf l0), (1, 1, .int l1)] dJ13_newCapacity_5 rfl rfl (Nat.le_of_ble_eq_true rfl) rfl ?_
  refine J_iload_n (i := 1) 2 7 dJ13_newCapacity_6 rfl rfl rfl ?_
  refine J_aload_n (i := 0) 1 8 dJ13_newCapacity_7 rfl rfl rfl ?_
  obtain ⟨v3, hv3, h⟩ := some_of_bind h
  refine J_gI 11 dJ13_newCapacity_8 rfl fk_s_376 hv3 ?_
  refine J_ishl 12 dJ13_newCapacity_11 rfl ?_
  refine J_istore_n (i := 3) 13 [(3, 1, .int (l1 <<< (v3 &&& 31))), (2, 1, .int v2), (0, 1, va_rf l0), (1, 1, .int l1)] dJ13_newCapacity_12 rfl rfl (Nat.le_of_ble_eq_true rfl) rfl ?_
  refine J_iload_n (i := 3) 0 14 dJ13_newCapacity_13 rfl rfl rfl ?_
  refine J_iload_n (i := 2) 1 15 dJ13_newCapacity_14 rfl rfl rfl ?_
  refine J_isub 16 dJ13_newCapacity_15 rfl ?_
  refine J_istore (i := 4) 18 [(4, 1, .int ((l1 <<< (v3 &&& 31)) - v2)), (3, 1, .int (l1 <<< (v3 &&& 31))), (2, 1, .int v2), (0, 1, va_rf l0), (1, 1, .int l1)] dJ13_newCapacity_16 rfl (Nat.le_of_ble_eq_true rfl) rfl ?_
  refine J_iload_n (i := 2) 2 19 dJ13_newCapacity_18 rfl rfl rfl ?_
  refine J_iload (i := 4) 0 21 dJ13_newCapacity_19 rfl rfl ?_
  refine J_iload_n (i := 2) 2 22 dJ13_newCapacity_21 rfl rfl rfl ?_
  refine J_ic 23 dJ13_newCapacity_22 rfl (2 : Int32) kic_2 ?_
  refine J_aload_n (i := 0) 3 24 dJ13_newCapacity_23 rfl rfl rfl ?_
  obtain ⟨v4, hv4, h⟩ := some_of_bind h
  refine J_gI 27 dJ13_newCapacity_24 rfl fk_s_376 hv4 ?_
  refine J_ishl 28 dJ13_newCapacity_27 rfl ?_
  refine J_iadd 29 dJ13_newCapacity_28 rfl ?_
  obtain ⟨q5, hq5, h⟩ := some_of_bind h
  refine J_cSi 32 dJ13_newCapacity_29 rfl ykJ16_newLength (Or.inl q830) q831 (Nat.le_of_ble_eq_true rfl) cs_nil (by decide) [.int v2, .int ((l1 <<< (v3 &&& 31)) - v2), .int (v2 + ((2 : Int32) <<< (v4 &&& 31)))] rfl rfl (sJ16_newLength hγ v2 ((l1 <<< (v3 &&& 31)) - v2) (v2 + ((2 : Int32) <<< (v4 &&& 31))) σ q5 hq5) ?_
  refine J_istore (i := 5) 34 [(5, 1, .int q5.1), (4, 1, .int ((l1 <<< (v3 &&& 31)) - v2)), (3, 1, .int (l1 <<< (v3 &&& 31))), (2, 1, .int v2), (0, 1, va_rf l0), (1, 1, .int l1)] dJ13_newCapacity_32 rfl (Nat.le_of_ble_eq_true rfl) rfl ?_
  refine J_iload (i := 5) 0 36 dJ13_newCapacity_34 rfl rfl ?_
  refine J_ldc (v := (2147483647 : Int32)) 38 dJ13_newCapacity_36 rfl q838 ?_
  refine J_icmp_ne 51 41 dJ13_newCapacity_38 (by decide) rfl (fun c6 => ?_) (fun c6 => ?_)
  · rw [if_neg c6] at h
    refine J_iload (i := 5) 0 53 dJ13_newCapacity_51 rfl rfl ?_
    refine J_aload_n (i := 0) 4 54 dJ13_newCapacity_53 rfl rfl rfl ?_
    obtain ⟨v7, hv7, h⟩ := some_of_bind h
    refine J_gI 57 dJ13_newCapacity_54 rfl fk_s_376 hv7 ?_
    refine J_ishr 58 dJ13_newCapacity_57 rfl ?_
    exact J_iret rfl dJ13_newCapacity_58 (retI h)
  · rw [if_pos c6] at h
    cases h
abbrev mJ6_copyOf : MP := (cJ6_copyOf, "java/util/Arrays", 3, (Option.some (FieldType.array FieldType.byte)), 1, "copyOf", [])
theorem ykJ6_copyOf : YK yJ6_copyOf mJ6_copyOf 2 := ⟨q841, q142, ⟨by decide, by decide⟩, by decide +kernel, Nat.le_of_ble_eq_true rfl, by decide, rfl, rfl⟩
def J6_copyOf (l0 : Option Nat) (l1 : Int32) (σ : Hp) : Option (Option Nat × Hp) :=
  (aN σ l0).bind fun v1 =>
  if l1 = v1 then
    (clB σ l0).bind fun σ6 =>
    (cT σ6 (some (hsz σ)) 102).bind fun b7 =>
    some ((some (hsz σ)), σ6)
  else
    (nA 2 σ l1).bind fun σ3 =>
    (aN σ3 l0).bind fun v4 =>
    (cpI 2 σ3 l0 (0 : Int32) (some (hsz σ)) (0 : Int32) (imin v4 l1)).bind fun σ5 =>
    some ((some (hsz σ)), σ5)
set_option maxHeartbeats 4000000 in
theorem sJ6_copyOf {γ : GP} (hγ : GOK γ) (l0 : Option Nat) (l1 : Int32) (σ : Hp) (q : (Option Nat × Hp)) (h : J6_copyOf l0 l1 σ = some q) : Rn γ mJ6_copyOf yJ6_copyOf [va_rf l0, .int l1] (σ, .inr (some (va_rf q.1)), q.2) := by
  refine J_m hγ ykJ6_copyOf rfl [(1, va_rf l0), (1, .int l1)] (cats_r (cats_i cats_nil)) (Nat.le_of_ble_eq_true rfl) ?_
  show J γ mJ6_copyOf _ σ 0 [(0, 1, va_rf l0), (1, 1, .int l1)] []
  unfold J6_copyOf at h
  refine J_iload_n (i := 1) 1 1 dJ6_copyOf_0 rfl rfl rfl ?_
  refine J_aload_n (i := 0) 0 2 dJ6_copyOf_1 rfl rfl rfl ?_
  obtain ⟨v1, hv1, h⟩ := some_of_bind h
  refine J_alen 3 dJ6_copyOf_2 rfl hv1 ?_
  refine J_icmp_ne 14 6 dJ6_copyOf_3 (by decide) rfl (fun c2 => ?_) (fun c2 => ?_)
  · rw [if_neg c2] at h
    refine J_iload_n (i := 1) 1 15 dJ6_copyOf_14 rfl rfl rfl ?_
    obtain ⟨σ3, hσ3, h⟩ := some_of_bind h
    refine J_newB 17 dJ6_copyOf_15 rfl hσ3 ?_
    refine J_astore_n (i := 2) 18 [(2, 1, va_rf (some (hsz σ))), (0, 1, va_rf l0), (1, 1, .int l1)] dJ6_copyOf_17 rfl rfl (Nat.le_of_ble_eq_true rfl) rfl ?_
    refine J_aload_n (i := 0) 1 19 dJ6_copyOf_18 rfl rfl rfl ?_
    refine J_ic 20 dJ6_copyOf_19 rfl (0 : Int32) kic_0 ?_
    refine J_aload_n (i := 2) 0 21 dJ6_copyOf_20 rfl rfl rfl ?_
    refine J_ic 22 dJ6_copyOf_21 rfl (0 : Int32) kic_0 ?_
    refine J_aload_n (i := 0) 1 23 dJ6_copyOf_22 rfl rfl rfl ?_
    obtain ⟨v4, hv4, h⟩ := some_of_bind h
    refine J_alen 24 dJ6_copyOf_23 rfl hv4 ?_
    refine J_iload_n (i := 1) 2 25 dJ6_copyOf_24 rfl rfl rfl ?_
    refine J_mminI q849 (Nat.le_of_ble_eq_true rfl) (cs_int (cs_rf (cs_int (cs_rf cs_nil)))) (by decide) 28 dJ6_copyOf_25 rfl ?_
    obtain ⟨σ5, hσ5, h⟩ := some_of_bind h
    refine J_cpI 2 (by decide) (by decide) rfl rfl q850 (Nat.le_of_ble_eq_true rfl) cs_nil (by decide) 31 dJ6_copyOf_28 rfl hσ5 ?_
    refine J_aload_n (i := 2) 0 32 dJ6_copyOf_31 rfl rfl rfl ?_
    exact J_aret rfl (Or.inr ⟨_, rfl⟩) dJ6_copyOf_32 (retR h)
  · rw [if_pos c2] at h
    refine J_aload_n (i := 0) 0 7 dJ6_copyOf_6 rfl rfl rfl ?_
    obtain ⟨σ6, hσ6, h⟩ := some_of_bind h
    refine J_clone hσ6 q842 q843 q844 q845 q846 q847 (Nat.le_of_ble_eq_true rfl) cs_nil (by decide) 10 dJ6_copyOf_7 rfl ?_
    obtain ⟨b7, hb7, h⟩ := some_of_bind h
    refine J_castB hb7 q848 13 dJ6_copyOf_10 rfl ?_
    exact J_aret rfl (Or.inr ⟨_, rfl⟩) dJ6_copyOf_13 (retR h)
abbrev mJ13_ensureCapacityInternal : MP := (cJ13_ensureCapacityInternal, "java/lang/AbstractStringBuilder", 3, (Option.none : Option FieldType), 4, "ensureCapacityInternal", [])
theorem ykJ13_ensureCapacityInternal : YK yJ13_ensureCapacityInternal mJ13_ensureCapacityInternal 1 := ⟨q825, q150, ⟨by decide, by decide⟩, by decide +kernel, Nat.le_of_ble_eq_true rfl, by decide, rfl, rfl⟩
theorem pk_s_403 {nm9 : String} : POK "java/lang/AbstractStringBuilder" nm9 15 [35] 0 (.array .byte) := POK.one (by decide) rfl (Nat.le_of_ble_eq_true rfl) (Or.inl ⟨_, q802, Or.inl rfl⟩) rfl (by decide +kernel) (Or.inl rfl)
def J13_ensureCapacityInternal (l0 : Option Nat) (l1 : Int32) (σ : Hp) : Option Hp :=
  (gR σ l0 [35] 0).bind fun v1 =>
  (aN σ v1).bind fun v2 =>
  (gI σ l0 [35] 1).bind fun v3 =>
  if (l1 - (v2 >>> (v3 &&& 31))) ≤ 0 then
    some σ
  else
    (gR σ l0 [35] 0).bind fun v5 =>
    (cT σ l0 35).bind fun b7 =>
    (J13_newCapacity l0 l1 σ).bind fun q6 =>
    (gI q6.2 l0 [35] 1).bind fun v8 =>
    (J6_copyOf v5 (q6.1 <<< (v8 &&& 31)) q6.2).bind fun q9 =>
    (pR q9.2 l0 [35] 0 q9.1).bind fun σ10 =>
    some σ10
set_option maxHeartbeats 4000000 in
theorem sJ13_ensureCapacityInternal {γ : GP} (hγ : GOK γ) (l0 : Option Nat) (l1 : Int32) (σ : Hp) (q : Hp) (h : J13_ensureCapacityInternal l0 l1 σ = some q) : Rn γ mJ13_ensureCapacityInternal yJ13_ensureCapacityInternal [va_rf l0, .int l1] (σ, .inr none, q) := by
  refine J_m hγ ykJ13_ensureCapacityInternal rfl [(1, va_rf l0), (1, .int l1)] (cats_r (cats_i cats_nil)) (Nat.le_of_ble_eq_true rfl) ?_
  show J γ mJ13_ensureCapacityInternal _ σ 0 [(0, 1, va_rf l0), (1, 1, .int l1)] []
  unfold J13_ensureCapacityInternal at h
  refine J_aload_n (i := 0) 0 1 dJ13_ensureCapacityInternal_0 rfl rfl rfl ?_
  obtain ⟨v1, hv1, h⟩ := some_of_bind h
  refine J_gR 4 dJ13_ensureCapacityInternal_1 rfl fk_s_374 hv1 ?_
  obtain ⟨v2, hv2, h⟩ := some_of_bind h
  refine J_alen 5 dJ13_ensureCapacityInternal_4 rfl hv2 ?_
  refine J_aload_n (i := 0) 0 6 dJ13_ensureCapacityInternal_5 rfl rfl rfl ?_
  obtain ⟨v3, hv3, h⟩ := some_of_bind h
  refine J_gI 9 dJ13_ensureCapacityInternal_6 rfl fk_s_376 hv3 ?_
  refine J_ishr 10 dJ13_ensureCapacityInternal_9 rfl ?_
  refine J_istore_n (i := 2) 11 [(2, 1, .int (v2 >>> (v3 &&& 31))), (0, 1, va_rf l0), (1, 1, .int l1)] dJ13_ensureCapacityInternal_10 rfl rfl (Nat.le_of_ble_eq_true rfl) rfl ?_
  refine J_iload_n (i := 1) 2 12 dJ13_ensureCapacityInternal_11 rfl rfl rfl ?_
  refine J_iload_n (i := 2) 0 13 dJ13_ensureCapacityInternal_12 rfl rfl rfl ?_
  refine J_isub 14 dJ13_ensureCapacityInternal_13 rfl ?_
  refine J_if_le 38 17 dJ13_ensureCapacityInternal_14 (by decide) rfl (fun c4 => ?_) (fun c4 => ?_)
  · rw [if_pos c4] at h
    exact J_vret rfl dJ13_ensureCapacityInternal_38 (retV h)
  · rw [if_neg c4] at h
    refine J_aload_n (i := 0) 1 18 dJ13_ensureCapacityInternal_17 rfl rfl rfl ?_
    refine J_aload_n (i := 0) 1 19 dJ13_ensureCapacityInternal_18 rfl rfl rfl ?_
    obtain ⟨v5, hv5, h⟩ := some_of_bind h
    refine J_gR 22 dJ13_ensureCapacityInternal_19 rfl fk_s_374 hv5 ?_
    refine J_aload_n (i := 0) 1 23 dJ13_ensureCapacityInternal_22 rfl rfl rfl ?_
    refine J_iload_n (i := 1) 2 24 dJ13_ensureCapacityInternal_23 rfl rfl rfl ?_
    obtain ⟨b7, hb7, h⟩ := some_of_bind h
    obtain ⟨q6, hq6, h⟩ := some_of_bind h
    refine J_cWi 27 dJ13_ensureCapacityInternal_24 rfl ykJ13_newCapacity (Or.inl q826) q828 (Nat.le_of_ble_eq_true rfl) (cs_rf (cs_rf cs_nil)) (by decide) [.int l1] (RC.one hb7 (by decide) rfl qp1) rfl rfl (sJ13_newCapacity hγ l0 l1 σ q6 hq6) ?_
    refine J_aload_n (i := 0) 1 28 dJ13_ensureCapacityInternal_27 rfl rfl rfl ?_
    obtain ⟨v8, hv8, h⟩ := some_of_bind h
    refine J_gI 31 dJ13_ensureCapacityInternal_28 rfl fk_s_376 hv8 ?_
    refine J_ishl 32 dJ13_ensureCapacityInternal_31 rfl ?_
    obtain ⟨q9, hq9, h⟩ := some_of_bind h
    refine J_cSr 35 dJ13_ensureCapacityInternal_32 rfl ykJ6_copyOf (Or.inl q839) q840 (Nat.le_of_ble_eq_true rfl) (cs_rf cs_nil) (by decide) [va_rf v5, .int (q6.1 <<< (v8 &&& 31))] rfl rfl (sJ6_copyOf hγ v5 (q6.1 <<< (v8 &&& 31)) q6.2 q9 hq9) ?_
    obtain ⟨σ10, hσ10, h⟩ := some_of_bind h
    refine J_pR rfl 38 dJ13_ensureCapacityInternal_35 rfl pk_s_403 hσ10 ?_
    exact J_vret rfl dJ13_ensureCapacityInternal_38 (retV h)
abbrev mJ17_canEncode : MP := (cJ17_canEncode, "java/lang/StringLatin1", 1, (Option.some FieldType.boolean), 0, "canEncode", [])
theorem ykJ17_canEncode : YK yJ17_canEncode mJ17_canEncode 1 := ⟨q858, q154, ⟨by decide, by decide⟩, by decide +kernel, Nat.le_of_ble_eq_true rfl, by decide, rfl, rfl⟩
def J17_canEncode (l0 : Int32) (σ : Hp) : Option (Int32 × Hp) :=
  if (255 : Int32) < l0 then
    some ((0 : Int32), σ)
  else
    some ((1 : Int32), σ)
set_option maxHeartbeats 4000000 in
theorem sJ17_canEncode {γ : GP} (hγ : GOK γ) (l0 : Int32) (σ : Hp) (q : (Int32 × Hp)) (h : J17_canEncode l0 σ = some q) : Rn γ mJ17_canEncode yJ17_canEncode [.int l0] (σ, .inr (some (.int q.1)), q.2) := by
  refine J_m hγ ykJ17_canEncode rfl [(1, .int l0)] (cats_i cats_nil) (Nat.le_of_ble_eq_true rfl) ?_
  show J γ mJ17_canEncode _ σ 0 [(0, 1, .int l0)] []
  unfold J17_canEncode at h
  refine J_iload_n (i := 0) 0 1 dJ17_canEncode_0 rfl rfl rfl ?_
  refine J_sipush 4 dJ17_canEncode_1 rfl (255 : Int32) ksp_255 ?_
  refine J_icmp_gt 11 7 dJ17_canEncode_4 (by decide) rfl (fun c1 => ?_) (fun c1 => ?_)
  · rw [if_pos c1] at h
    refine J_ic 12 dJ17_canEncode_11 rfl (0 : Int32) kic_0 ?_
    exact J_zret rfl (by decide) dJ17_canEncode_12 (retI h)
  · rw [if_neg c1] at h
    refine J_ic 8 dJ17_canEncode_7 rfl (1 : Int32) kic_1 ?_
    refine J_goto 12 dJ17_canEncode_8 (by decide) ?_
    exact J_zret rfl (by decide) dJ17_canEncode_12 (retI h)
abbrev mJ15_putChar : MP := (cJ15_putChar, "java/lang/StringUTF16", 3, (Option.none : Option FieldType), 1, "putChar", [])
theorem ykJ15_putChar : YK yJ15_putChar mJ15_putChar 3 := ⟨q885, q152, ⟨by decide, by decide⟩, by decide +kernel, Nat.le_of_ble_eq_true rfl, by decide, rfl, rfl⟩
def J15_putChar (l0 : Option Nat) (l1 : Int32) (l2 : Int32) (σ : Hp) : Option Hp :=
  none
set_option maxHeartbeats 4000000 in
theorem sJ15_putChar {γ : GP} (hγ : GOK γ) (l0 : Option Nat) (l1 : Int32) (l2 : Int32) (σ : Hp) (q : Hp) (h : J15_putChar l0 l1 l2 σ = some q) : Rn γ mJ15_putChar yJ15_putChar [va_rf l0, .int l1, .int l2] (σ, .inr none, q) := by
  refine J_m hγ ykJ15_putChar rfl [(1, va_rf l0), (1, .int l1), (1, .int l2)] (cats_r (cats_i (cats_i cats_nil))) (Nat.le_of_ble_eq_true rfl) ?_
  show J γ mJ15_putChar _ σ 0 [(0, 1, va_rf l0), (1, 1, .int l1), (2, 1, .int l2)] []
  unfold J15_putChar at h
  cases h
abbrev mJ15_inflate : MP := (cJ15_inflate, "java/lang/StringUTF16", 6, (Option.none : Option FieldType), 4, "inflate", [])
theorem ykJ15_inflate : YK yJ15_inflate mJ15_inflate 5 := ⟨q868, q152, ⟨by decide, by decide⟩, by decide +kernel, Nat.le_of_ble_eq_true rfl, by decide, rfl, rfl⟩
def J15_inflate_c10 (l0 : Option Nat) (l2 : Option Nat) (l4 : Int32)  : Nat → Int32 → Int32 → Int32 → Hp → Option Hp
  | 0, _, _, _, _ => none
  | n + 1, l1, l3, l5, σ =>
    if l4 ≤ l5 then
      some σ
    else
      (aI 2 σ l0 l1).bind fun v2 =>
      (J15_putChar l2 l3 (v2 &&& (255 : Int32)) σ).bind fun q3 =>
      J15_inflate_c10 l0 l2 l4 n (l1 + (1 : Int32)) (l3 + (1 : Int32)) (l5 + (1 : Int32)) q3
set_option maxHeartbeats 4000000 in
theorem jJ15_inflate_c10 {γ : GP} {σ0 : Hp} {q : Hp} (hγ : GOK γ) (l0 : Option Nat) (l2 : Option Nat) (l4 : Int32)  : ∀ (n : Nat) (l1 : Int32) (l3 : Int32) (l5 : Int32) (σ : Hp), J15_inflate_c10 l0 l2 l4 n l1 l3 l5 σ = some q → J γ mJ15_inflate (σ0, .inr none, q) σ 10 [(0, 1, va_rf l0), (1, 1, .int l1), (2, 1, va_rf l2), (3, 1, .int l3), (4, 1, .int l4), (5, 1, .int l5)] [] := by
  intro n
  induction n with
  | zero => intro l1 l3 l5 σ h; exact nomatch (show none = some q from h)
  | succ n ih =>
    intro l1 l3 l5 σ h
    rw [J15_inflate_c10] at h
    refine J_iload (i := 5) 5 12 dJ15_inflate_10 rfl rfl ?_
    refine J_iload (i := 4) 4 14 dJ15_inflate_12 rfl rfl ?_
    refine J_icmp_ge 41 17 dJ15_inflate_14 (by decide) rfl (fun c1 => ?_) (fun c1 => ?_)
    · rw [if_pos c1] at h
      exact J_vret rfl dJ15_inflate_41 (retV h)
    · rw [if_neg c1] at h
      refine J_aload_n (i := 2) 2 18 dJ15_inflate_17 rfl rfl rfl ?_
      refine J_iload_n (i := 3) 3 19 dJ15_inflate_18 rfl rfl rfl ?_
      refine J_iinc (i := 3) (v := l3 + (1 : Int32)) 3 22 [(3, 1, .int (l3 + (1 : Int32))), (0, 1, va_rf l0), (1, 1, .int l1), (2, 1, va_rf l2), (4, 1, .int l4), (5, 1, .int l5)] dJ15_inflate_19 rfl rfl (Nat.le_of_ble_eq_true rfl) (by rw [kic_1]) rfl ?_
      refine J_aload_n (i := 0) 1 23 dJ15_inflate_22 rfl rfl rfl ?_
      refine J_iload_n (i := 1) 2 24 dJ15_inflate_23 rfl rfl rfl ?_
      refine J_iinc (i := 1) (v := l1 + (1 : Int32)) 2 27 [(1, 1, .int (l1 + (1 : Int32))), (3, 1, .int (l3 + (1 : Int32))), (0, 1, va_rf l0), (2, 1, va_rf l2), (4, 1, .int l4), (5, 1, .int l5)] dJ15_inflate_24 rfl rfl (Nat.le_of_ble_eq_true rfl) (by rw [kic_1]) rfl ?_
      obtain ⟨v2, hv2, h⟩ := some_of_bind h
      refine J_bald 28 dJ15_inflate_27 rfl hv2 ?_
      refine J_sipush 31 dJ15_inflate_28 rfl (255 : Int32) ksp_255 ?_
      refine J_iand 32 dJ15_inflate_31 rfl ?_
      obtain ⟨q3, hq3, h⟩ := some_of_bind h
      refine J_cSv 35 dJ15_inflate_32 rfl ykJ15_putChar (Or.inl q883) q884 (Nat.le_of_ble_eq_true rfl) cs_nil (by decide) [va_rf l2, .int l3, .int (v2 &&& (255 : Int32))] rfl rfl (sJ15_putChar hγ l2 l3 (v2 &&& (255 : Int32)) σ q3 hq3) ?_
      refine J_iinc (i := 5) (v := l5 + (1 : Int32)) 5 38 [(5, 1, .int (l5 + (1 : Int32))), (1, 1, .int (l1 + (1 : Int32))), (3, 1, .int (l3 + (1 : Int32))), (0, 1, va_rf l0), (2, 1, va_rf l2), (4, 1, .int l4)] dJ15_inflate_35 rfl rfl (Nat.le_of_ble_eq_true rfl) (by rw [kic_1]) rfl ?_
      refine J_goto 10 dJ15_inflate_38 (by decide) ?_
      refine J.pick [3, 1, 4, 2, 5, 0] rfl ?_
      exact ih (l1 + (1 : Int32)) (l3 + (1 : Int32)) (l5 + (1 : Int32)) q3 h
def J15_inflate (l0 : Option Nat) (l1 : Int32) (l2 : Option Nat) (l3 : Int32) (l4 : Int32) (σ : Hp) : Option Hp :=
  (J15_checkBoundsOffCount l3 l4 l2 σ).bind fun q1 =>
  J15_inflate_c10 l0 l2 l4  FUEL l1 l3 (0 : Int32) q1
set_option maxHeartbeats 4000000 in
theorem sJ15_inflate {γ : GP} (hγ : GOK γ) (l0 : Option Nat) (l1 : Int32) (l2 : Option Nat) (l3 : Int32) (l4 : Int32) (σ : Hp) (q : Hp) (h : J15_inflate l0 l1 l2 l3 l4 σ = some q) : Rn γ mJ15_inflate yJ15_inflate [va_rf l0, .int l1, va_rf l2, .int l3, .int l4] (σ, .inr none, q) := by
  refine J_m hγ ykJ15_inflate rfl [(1, va_rf l0), (1, .int l1), (1, va_rf l2), (1, .int l3), (1, .int l4)] (cats_r (cats_i (cats_r (cats_i (cats_i cats_nil))))) (Nat.le_of_ble_eq_true rfl) ?_
  show J γ mJ15_inflate _ σ 0 [(0, 1, va_rf l0), (1, 1, .int l1), (2, 1, va_rf l2), (3, 1, .int l3), (4, 1, .int l4)] []
  unfold J15_inflate at h
  refine J_iload_n (i := 3) 3 1 dJ15_inflate_0 rfl rfl rfl ?_
  refine J_iload (i := 4) 4 3 dJ15_inflate_1 rfl rfl ?_
  refine J_aload_n (i := 2) 2 4 dJ15_inflate_3 rfl rfl rfl ?_
  obtain ⟨q1, hq1, h⟩ := some_of_bind h
  refine J_cSv 7 dJ15_inflate_4 rfl ykJ15_checkBoundsOffCount (Or.inl q869) q870 (Nat.le_of_ble_eq_true rfl) cs_nil (by decide) [.int l3, .int l4, va_rf l2] rfl rfl (sJ15_checkBoundsOffCount hγ l3 l4 l2 σ q1 hq1) ?_
  refine J_ic 8 dJ15_inflate_7 rfl (0 : Int32) kic_0 ?_
  refine J_istore (i := 5) 10 [(5, 1, .int (0 : Int32)), (0, 1, va_rf l0), (1, 1, .int l1), (2, 1, va_rf l2), (3, 1, .int l3), (4, 1, .int l4)] dJ15_inflate_8 rfl (Nat.le_of_ble_eq_true rfl) rfl ?_
  refine J.pick [1, 2, 3, 4, 5, 0] rfl ?_
  refine jJ15_inflate_c10 hγ l0 l2 l4  FUEL l1 l3 (0 : Int32) q1 h
abbrev mJ17_inflate : MP := (cJ17_inflate, "java/lang/StringLatin1", 5, (Option.none : Option FieldType), 5, "inflate", [])
theorem ykJ17_inflate : YK yJ17_inflate mJ17_inflate 5 := ⟨q865, q154, ⟨by decide, by decide⟩, by decide +kernel, Nat.le_of_ble_eq_true rfl, by decide, rfl, rfl⟩
def J17_inflate (l0 : Option Nat) (l1 : Int32) (l2 : Option Nat) (l3 : Int32) (l4 : Int32) (σ : Hp) : Option Hp :=
  (J15_inflate l0 l1 l2 l3 l4 σ).bind fun q1 =>
  some q1
set_option maxHeartbeats 4000000 in
theorem sJ17_inflate {γ : GP} (hγ : GOK γ) (l0 : Option Nat) (l1 : Int32) (l2 : Option Nat) (l3 : Int32) (l4 : Int32) (σ : Hp) (q : Hp) (h : J17_inflate l0 l1 l2 l3 l4 σ = some q) : Rn γ mJ17_inflate yJ17_inflate [va_rf l0, .int l1, va_rf l2, .int l3, .int l4] (σ, .inr none, q) := by
  refine J_m hγ ykJ17_inflate rfl [(1, va_rf l0), (1, .int l1), (1, va_rf l2), (1, .int l3), (1, .int l4)] (cats_r (cats_i (cats_r (cats_i (cats_i cats_nil))))) (Nat.le_of_ble_eq_true rfl) ?_
  show J γ mJ17_inflate _ σ 0 [(0, 1, va_rf l0), (1, 1, .int l1), (2, 1, va_rf l2), (3, 1, .int l3), (4, 1, .int l4)] []
  unfold J17_inflate at h
  refine J_aload_n (i := 0) 0 1 dJ17_inflate_0 rfl rfl rfl ?_
  refine J_iload_n (i := 1) 1 2 dJ17_inflate_1 rfl rfl rfl ?_
  refine J_aload_n (i := 2) 2 3 dJ17_inflate_2 rfl rfl rfl ?_
  refine J_iload_n (i := 3) 3 4 dJ17_inflate_3 rfl rfl rfl ?_
  refine J_iload (i := 4) 4 6 dJ17_inflate_4 rfl rfl ?_
  obtain ⟨q1, hq1, h⟩ := some_of_bind h
  refine J_cSv 9 dJ17_inflate_6 rfl ykJ15_inflate (Or.inl q866) q867 (Nat.le_of_ble_eq_true rfl) cs_nil (by decide) [va_rf l0, .int l1, va_rf l2, .int l3, .int l4] rfl rfl (sJ15_inflate hγ l0 l1 l2 l3 l4 σ q1 hq1) ?_
  exact J_vret rfl dJ17_inflate_9 (retV h)
abbrev mJ13_inflate : MP := (cJ13_inflate, "java/lang/AbstractStringBuilder", 2, (Option.none : Option FieldType), 6, "inflate", [])
theorem ykJ13_inflate : YK yJ13_inflate mJ13_inflate 0 := ⟨q862, q150, ⟨by decide, by decide⟩, by decide +kernel, Nat.le_of_ble_eq_true rfl, by decide, rfl, rfl⟩
theorem pk_s_404 {nm9 : String} : POK "java/lang/AbstractStringBuilder" nm9 22 [35] 1 .byte := POK.one (by decide) rfl (Nat.le_of_ble_eq_true rfl) (Or.inl ⟨_, q803, Or.inl rfl⟩) rfl (by decide +kernel) (Or.inl rfl)
def J13_inflate (l0 : Option Nat) (σ : Hp) : Option Hp :=
  (cT σ l0 35).bind fun b2 =>
  (J13_isLatin1 l0  σ).bind fun q1 =>
  if q1.1 = 0 then
    some q1.2
  else
    (gR q1.2 l0 [35] 0).bind fun v4 =>
    (aN q1.2 v4).bind fun v5 =>
    (J15_newBytesFor v5 q1.2).bind fun q6 =>
    (gR q6.2 l0 [35] 0).bind fun v7 =>
    (gI q6.2 l0 [35] 3).bind fun v8 =>
    (J17_inflate v7 (0 : Int32) q6.1 (0 : Int32) v8 q6.2).bind fun q9 =>
    (pR q9 l0 [35] 0 q6.1).bind fun σ10 =>
    (pB σ10 l0 [35] 1 (1 : Int32)).bind fun σ11 =>
    some σ11
set_option maxHeartbeats 4000000 in
theorem sJ13_inflate {γ : GP} (hγ : GOK γ) (l0 : Option Nat) (σ : Hp) (q : Hp) (h : J13_inflate l0 σ = some q) : Rn γ mJ13_inflate yJ13_inflate [va_rf l0] (σ, .inr none, q) := by
  refine J_m hγ ykJ13_inflate rfl [(1, va_rf l0)] (cats_r cats_nil) (Nat.le_of_ble_eq_true rfl) ?_
  show J γ mJ13_inflate _ σ 0 [(0, 1, va_rf l0)] []
  unfold J13_inflate at h
  refine J_aload_n (i := 0) 0 1 dJ13_inflate_0 rfl rfl rfl ?_
  obtain ⟨b2, hb2, h⟩ := some_of_bind h
  obtain ⟨q1, hq1, h⟩ := some_of_bind h
  refine J_cWi 4 dJ13_inflate_1 rfl ykJ13_isLatin1 (Or.inl q851) q852 (Nat.le_of_ble_eq_true rfl) cs_nil (by decide) [] (RC.one hb2 (by decide) rfl q854) rfl rfl (sJ13_isLatin1 hγ l0  σ q1 hq1) ?_
  refine J_if_ne 8 7 dJ13_inflate_4 (by decide) rfl (fun c3 => ?_) (fun c3 => ?_)
  · rw [if_neg c3] at h
    refine J_aload_n (i := 0) 0 9 dJ13_inflate_8 rfl rfl rfl ?_
    obtain ⟨v4, hv4, h⟩ := some_of_bind h
    refine J_gR 12 dJ13_inflate_9 rfl fk_s_374 hv4 ?_
    obtain ⟨v5, hv5, h⟩ := some_of_bind h
    refine J_alen 13 dJ13_inflate_12 rfl hv5 ?_
    obtain ⟨q6, hq6, h⟩ := some_of_bind h
    refine J_cSr 16 dJ13_inflate_13 rfl ykJ15_newBytesFor (Or.inl q795) q796 (Nat.le_of_ble_eq_true rfl) cs_nil (by decide) [.int v5] rfl rfl (sJ15_newBytesFor hγ v5 q1.2 q6 hq6) ?_
    refine J_astore_n (i := 1) 17 [(1, 1, va_rf q6.1), (0, 1, va_rf l0)] dJ13_inflate_16 rfl rfl (Nat.le_of_ble_eq_true rfl) rfl ?_
    refine J_aload_n (i := 0) 1 18 dJ13_inflate_17 rfl rfl rfl ?_
    obtain ⟨v7, hv7, h⟩ := some_of_bind h
    refine J_gR 21 dJ13_inflate_18 rfl fk_s_374 hv7 ?_
    refine J_ic 22 dJ13_inflate_21 rfl (0 : Int32) kic_0 ?_
    refine J_aload_n (i := 1) 0 23 dJ13_inflate_22 rfl rfl rfl ?_
    refine J_ic 24 dJ13_inflate_23 rfl (0 : Int32) kic_0 ?_
    refine J_aload_n (i := 0) 1 25 dJ13_inflate_24 rfl rfl rfl ?_
    obtain ⟨v8, hv8, h⟩ := some_of_bind h
    refine J_gI 28 dJ13_inflate_25 rfl fk_s_375 hv8 ?_
    obtain ⟨q9, hq9, h⟩ := some_of_bind h
    refine J_cSv 31 dJ13_inflate_28 rfl ykJ17_inflate (Or.inl q863) q864 (Nat.le_of_ble_eq_true rfl) cs_nil (by decide) [va_rf v7, .int (0 : Int32), va_rf q6.1, .int (0 : Int32), .int v8] rfl rfl (sJ17_inflate hγ v7 (0 : Int32) q6.1 (0 : Int32) v8 q6.2 q9 hq9) ?_
    refine J_aload_n (i := 0) 1 32 dJ13_inflate_31 rfl rfl rfl ?_
    refine J_aload_n (i := 1) 0 33 dJ13_inflate_32 rfl rfl rfl ?_
    obtain ⟨σ10, hσ10, h⟩ := some_of_bind h
    refine J_pR rfl 36 dJ13_inflate_33 rfl pk_s_403 hσ10 ?_
    refine J_aload_n (i := 0) 1 37 dJ13_inflate_36 rfl rfl rfl ?_
    refine J_ic 38 dJ13_inflate_37 rfl (1 : Int32) kic_1 ?_
    obtain ⟨σ11, hσ11, h⟩ := some_of_bind h
    refine J_pB 41 dJ13_inflate_38 rfl pk_s_404 hσ11 ?_
    exact J_vret rfl dJ13_inflate_41 (retV h)
  · rw [if_pos c3] at h
    exact J_vret rfl dJ13_inflate_7 (retV h)
abbrev mJ15_putCharSB : MP := (cJ15_putCharSB, "java/lang/StringUTF16", 3, (Option.none : Option FieldType), 4, "putCharSB", [])
theorem ykJ15_putCharSB : YK yJ15_putCharSB mJ15_putCharSB 3 := ⟨q894, q152, ⟨by decide, by decide⟩, by decide +kernel, Nat.le_of_ble_eq_true rfl, by decide, rfl, rfl⟩
def J15_putCharSB (l0 : Option Nat) (l1 : Int32) (l2 : Int32) (σ : Hp) : Option Hp :=
  (J15_checkIndex l1 l0 σ).bind fun q1 =>
  (J15_putChar l0 l1 l2 q1).bind fun q2 =>
  some q2
set_option maxHeartbeats 4000000 in
theorem sJ15_putCharSB {γ : GP} (hγ : GOK γ) (l0 : Option Nat) (l1 : Int32) (l2 : Int32) (σ : Hp) (q : Hp) (h : J15_putCharSB l0 l1 l2 σ = some q) : Rn γ mJ15_putCharSB yJ15_putCharSB [va_rf l0, .int l1, .int l2] (σ, .inr none, q) := by
  refine J_m hγ ykJ15_putCharSB rfl [(1, va_rf l0), (1, .int l1), (1, .int l2)] (cats_r (cats_i (cats_i cats_nil))) (Nat.le_of_ble_eq_true rfl) ?_
  show J γ mJ15_putCharSB _ σ 0 [(0, 1, va_rf l0), (1, 1, .int l1), (2, 1, .int l2)] []
  unfold J15_putCharSB at h
  refine J_iload_n (i := 1) 1 1 dJ15_putCharSB_0 rfl rfl rfl ?_
  refine J_aload_n (i := 0) 0 2 dJ15_putCharSB_1 rfl rfl rfl ?_
  obtain ⟨q1, hq1, h⟩ := some_of_bind h
  refine J_cSv 5 dJ15_putCharSB_2 rfl ykJ15_checkIndex (Or.inl q895) q896 (Nat.le_of_ble_eq_true rfl) cs_nil (by decide) [.int l1, va_rf l0] rfl rfl (sJ15_checkIndex hγ l1 l0 σ q1 hq1) ?_
  refine J_aload_n (i := 0) 0 6 dJ15_putCharSB_5 rfl rfl rfl ?_
  refine J_iload_n (i := 1) 1 7 dJ15_putCharSB_6 rfl rfl rfl ?_
  refine J_iload_n (i := 2) 2 8 dJ15_putCharSB_7 rfl rfl rfl ?_
  obtain ⟨q2, hq2, h⟩ := some_of_bind h
  refine J_cSv 11 dJ15_putCharSB_8 rfl ykJ15_putChar (Or.inl q883) q884 (Nat.le_of_ble_eq_true rfl) cs_nil (by decide) [va_rf l0, .int l1, .int l2] rfl rfl (sJ15_putChar hγ l0 l1 l2 q1 q2 hq2) ?_
  exact J_vret rfl dJ15_putCharSB_11 (retV h)
abbrev mJ13_append : MP := (cJ13_append, "java/lang/AbstractStringBuilder", 2, (Option.some (FieldType.object "java/lang/AbstractStringBuilder")), 7, "append", [])
theorem ykJ13_append : YK yJ13_append mJ13_append 1 := ⟨q821, q150, ⟨by decide, by decide⟩, by decide +kernel, Nat.le_of_ble_eq_true rfl, by decide, rfl, rfl⟩
theorem pk_s_405 {nm9 : String} : POK "java/lang/AbstractStringBuilder" nm9 79 [35] 3 .int := POK.one (by decide) rfl (Nat.le_of_ble_eq_true rfl) (Or.inl ⟨_, q805, Or.inl rfl⟩) rfl (by decide +kernel) (Or.inl rfl)
def J13_append_c56  (l0 : Option Nat) (l1 : Int32)  (σ : Hp) : Option (Option Nat × Hp) :=
  (gR σ l0 [35] 0).bind fun v1 =>
  (gI σ l0 [35] 3).bind fun v2 =>
  (pI σ l0 [35] 3 (v2 + (1 : Int32))).bind fun σ3 =>
  (J15_putCharSB v1 v2 l1 σ3).bind fun q4 =>
  some (l0, q4)
set_option maxHeartbeats 4000000 in
theorem jJ13_append_c56 {γ : GP} {σ0 : Hp} {q : (Option Nat × Hp)} (hγ : GOK γ) (l0 : Option Nat) (l1 : Int32)   (σ : Hp) (h : J13_append_c56 l0 l1 σ = some q) : J γ mJ13_append (σ0, .inr (some (va_rf q.1)), q.2) σ 56 [(0, 1, va_rf l0), (1, 1, .int l1)] [] := by
  unfold J13_append_c56 at h
  refine J_aload_n (i := 0) 0 57 dJ13_append_56 rfl rfl rfl ?_
  obtain ⟨v1, hv1, h⟩ := some_of_bind h
  refine J_gR 60 dJ13_append_57 rfl fk_s_374 hv1 ?_
  refine J_aload_n (i := 0) 0 61 dJ13_append_60 rfl rfl rfl ?_
  refine J_dupr 62 dJ13_append_61 rfl ?_
  obtain ⟨v2, hv2, h⟩ := some_of_bind h
  refine J_gI 65 dJ13_append_62 rfl fk_s_375 hv2 ?_
  refine J_dup_x1ir 66 dJ13_append_65 rfl ?_
  refine J_ic 67 dJ13_append_66 rfl (1 : Int32) kic_1 ?_
  refine J_iadd 68 dJ13_append_67 rfl ?_
  obtain ⟨σ3, hσ3, h⟩ := some_of_bind h
  refine J_pI 71 dJ13_append_68 rfl pk_s_405 hσ3 ?_
  refine J_iload_n (i := 1) 1 72 dJ13_append_71 rfl rfl rfl ?_
  obtain ⟨q4, hq4, h⟩ := some_of_bind h
  refine J_cSv 75 dJ13_append_72 rfl ykJ15_putCharSB (Or.inl q892) q893 (Nat.le_of_ble_eq_true rfl) cs_nil (by decide) [va_rf v1, .int v2, .int l1] rfl rfl (sJ15_putCharSB hγ v1 v2 l1 σ3 q4 hq4) ?_
  refine J_aload_n (i := 0) 0 76 dJ13_append_75 rfl rfl rfl ?_
  exact J_aret rfl (Or.inl ⟨_, rfl⟩) dJ13_append_76 (retR h)
def J13_append_c45  (l0 : Option Nat) (l1 : Int32)  (σ : Hp) : Option (Option Nat × Hp) :=
  (cT σ l0 35).bind fun b2 =>
  (J13_isLatin1 l0  σ).bind fun q1 =>
  if q1.1 = 0 then
    J13_append_c56  l0 l1  q1.2
  else
    (cT q1.2 l0 35).bind fun b5 =>
    (J13_inflate l0  q1.2).bind fun q4 =>
    J13_append_c56  l0 l1  q4
set_option maxHeartbeats 4000000 in
theorem jJ13_append_c45 {γ : GP} {σ0 : Hp} {q : (Option Nat × Hp)} (hγ : GOK γ) (l0 : Option Nat) (l1 : Int32)   (σ : Hp) (h : J13_append_c45 l0 l1 σ = some q) : J γ mJ13_append (σ0, .inr (some (va_rf q.1)), q.2) σ 45 [(0, 1, va_rf l0), (1, 1, .int l1)] [] := by
  unfold J13_append_c45 at h
  refine J_aload_n (i := 0) 0 46 dJ13_append_45 rfl rfl rfl ?_
  obtain ⟨b2, hb2, h⟩ := some_of_bind h
  obtain ⟨q1, hq1, h⟩ := some_of_bind h
  refine J_cWi 49 dJ13_append_46 rfl ykJ13_isLatin1 (Or.inl q851) q852 (Nat.le_of_ble_eq_true rfl) cs_nil (by decide) [] (RC.one hb2 (by decide) rfl q854) rfl rfl (sJ13_isLatin1 hγ l0  σ q1 hq1) ?_
  refine J_if_eq 56 52 dJ13_append_49 (by decide) rfl (fun c3 => ?_) (fun c3 => ?_)
  · rw [if_pos c3] at h
    exact jJ13_append_c56 hγ l0 l1  q1.2 h
  · rw [if_neg c3] at h
    refine J_aload_n (i := 0) 0 53 dJ13_append_52 rfl rfl rfl ?_
    obtain ⟨b5, hb5, h⟩ := some_of_bind h
    obtain ⟨q4, hq4, h⟩ := some_of_bind h
    refine J_cWv 56 dJ13_append_53 rfl ykJ13_inflate (Or.inl q859) q861 (Nat.le_of_ble_eq_true rfl) cs_nil (by decide) [] (RC.one hb5 (by decide) rfl qp2) rfl rfl (sJ13_inflate hγ l0  q1.2 q4 hq4) ?_
    exact jJ13_append_c56 hγ l0 l1  q4 h
def J13_append (l0 : Option Nat) (l1 : Int32) (σ : Hp) : Option (Option Nat × Hp) :=
  (gI σ l0 [35] 3).bind fun v1 =>
  (cT σ l0 35).bind fun b3 =>
  (J13_ensureCapacityInternal l0 (v1 + (1 : Int32)) σ).bind fun q2 =>
  (cT q2 l0 35).bind fun b5 =>
  (J13_isLatin1 l0  q2).bind fun q4 =>
  if q4.1 = 0 then
    J13_append_c45  l0 l1  q4.2
  else
    (J17_canEncode l1 q4.2).bind fun q7 =>
    if q7.1 = 0 then
      J13_append_c45  l0 l1  q7.2
    else
      (gR q7.2 l0 [35] 0).bind fun v9 =>
      (gI q7.2 l0 [35] 3).bind fun v10 =>
      (pI q7.2 l0 [35] 3 (v10 + (1 : Int32))).bind fun σ11 =>
      (sI 2 σ11 v9 v10 l1.toInt8.toInt32).bind fun σ12 =>
      some (l0, σ12)
set_option maxHeartbeats 4000000 in
theorem sJ13_append {γ : GP} (hγ : GOK γ) (l0 : Option Nat) (l1 : Int32) (σ : Hp) (q : (Option Nat × Hp)) (h : J13_append l0 l1 σ = some q) : Rn γ mJ13_append yJ13_append [va_rf l0, .int l1] (σ, .inr (some (va_rf q.1)), q.2) := by
  refine J_m hγ ykJ13_append rfl [(1, va_rf l0), (1, .int l1)] (cats_r (cats_i cats_nil)) (Nat.le_of_ble_eq_true rfl) ?_
  show J γ mJ13_append _ σ 0 [(0, 1, va_rf l0), (1, 1, .int l1)] []
  unfold J13_append at h
  refine J_aload_n (i := 0) 0 1 dJ13_append_0 rfl rfl rfl ?_
  refine J_aload_n (i := 0) 0 2 dJ13_append_1 rfl rfl rfl ?_
  obtain ⟨v1, hv1, h⟩ := some_of_bind h
  refine J_gI 5 dJ13_append_2 rfl fk_s_375 hv1 ?_
  refine J_ic 6 dJ13_append_5 rfl (1 : Int32) kic_1 ?_
  refine J_iadd 7 dJ13_append_6 rfl ?_
  obtain ⟨b3, hb3, h⟩ := some_of_bind h
  obtain ⟨q2, hq2, h⟩ := some_of_bind h
  refine J_cWv 10 dJ13_append_7 rfl ykJ13_ensureCapacityInternal (Or.inl q822) q824 (Nat.le_of_ble_eq_true rfl) cs_nil (by decide) [.int (v1 + (1 : Int32))] (RC.one hb3 (by decide) rfl qp0) rfl rfl (sJ13_ensureCapacityInternal hγ l0 (v1 + (1 : Int32)) σ q2 hq2) ?_
  refine J_aload_n (i := 0) 0 11 dJ13_append_10 rfl rfl rfl ?_
  obtain ⟨b5, hb5, h⟩ := some_of_bind h
  obtain ⟨q4, hq4, h⟩ := some_of_bind h
  refine J_cWi 14 dJ13_append_11 rfl ykJ13_isLatin1 (Or.inl q851) q852 (Nat.le_of_ble_eq_true rfl) cs_nil (by decide) [] (RC.one hb5 (by decide) rfl q854) rfl rfl (sJ13_isLatin1 hγ l0  q2 q4 hq4) ?_
  refine J_if_eq 45 17 dJ13_append_14 (by decide) rfl (fun c6 => ?_) (fun c6 => ?_)
  · rw [if_pos c6] at h
    exact jJ13_append_c45 hγ l0 l1  q4.2 h
  · rw [if_neg c6] at h
    refine J_iload_n (i := 1) 1 18 dJ13_append_17 rfl rfl rfl ?_
    obtain ⟨q7, hq7, h⟩ := some_of_bind h
    refine J_cSi 21 dJ13_append_18 rfl ykJ17_canEncode (Or.inl q856) q857 (Nat.le_of_ble_eq_true rfl) cs_nil (by decide) [.int l1] rfl rfl (sJ17_canEncode hγ l1 q4.2 q7 hq7) ?_
    refine J_if_eq 45 24 dJ13_append_21 (by decide) rfl (fun c8 => ?_) (fun c8 => ?_)
    · rw [if_pos c8] at h
      exact jJ13_append_c45 hγ l0 l1  q7.2 h
    · rw [if_neg c8] at h
      refine J_aload_n (i := 0) 0 25 dJ13_append_24 rfl rfl rfl ?_
      obtain ⟨v9, hv9, h⟩ := some_of_bind h
      refine J_gR 28 dJ13_append_25 rfl fk_s_374 hv9 ?_
      refine J_aload_n (i := 0) 0 29 dJ13_append_28 rfl rfl rfl ?_
      refine J_dupr 30 dJ13_append_29 rfl ?_
      obtain ⟨v10, hv10, h⟩ := some_of_bind h
      refine J_gI 33 dJ13_append_30 rfl fk_s_375 hv10 ?_
      refine J_dup_x1ir 34 dJ13_append_33 rfl ?_
      refine J_ic 35 dJ13_append_34 rfl (1 : Int32) kic_1 ?_
      refine J_iadd 36 dJ13_append_35 rfl ?_
      obtain ⟨σ11, hσ11, h⟩ := some_of_bind h
      refine J_pI 39 dJ13_append_36 rfl pk_s_405 hσ11 ?_
      refine J_iload_n (i := 1) 1 40 dJ13_append_39 rfl rfl rfl ?_
      refine J_i2b 41 dJ13_append_40 rfl ?_
      obtain ⟨σ12, hσ12, h⟩ := some_of_bind h
      refine J_bast 42 dJ13_append_41 rfl hσ12 ?_
      refine J_goto 75 dJ13_append_42 (by decide) ?_
      refine J_aload_n (i := 0) 0 76 dJ13_append_75 rfl rfl rfl ?_
      exact J_aret rfl (Or.inl ⟨_, rfl⟩) dJ13_append_76 (retR h)
abbrev mJ14_append : MP := (cJ14_append, "java/lang/StringBuilder", 2, (Option.some (FieldType.object "java/lang/StringBuilder")), 8, "append", [])
theorem ykJ14_append : YK yJ14_append mJ14_append 1 := ⟨q818, q151, ⟨by decide, by decide⟩, by decide +kernel, Nat.le_of_ble_eq_true rfl, by decide, rfl, rfl⟩
def J14_append (l0 : Option Nat) (l1 : Int32) (σ : Hp) : Option (Option Nat × Hp) :=
  (cT σ l0 35).bind fun b2 =>
  (J13_append l0 l1 σ).bind fun q1 =>
  some (l0, q1.2)
set_option maxHeartbeats 4000000 in
theorem sJ14_append {γ : GP} (hγ : GOK γ) (l0 : Option Nat) (l1 : Int32) (σ : Hp) (q : (Option Nat × Hp)) (h : J14_append l0 l1 σ = some q) : Rn γ mJ14_append yJ14_append [va_rf l0, .int l1] (σ, .inr (some (va_rf q.1)), q.2) := by
  refine J_m hγ ykJ14_append rfl [(1, va_rf l0), (1, .int l1)] (cats_r (cats_i cats_nil)) (Nat.le_of_ble_eq_true rfl) ?_
  show J γ mJ14_append _ σ 0 [(0, 1, va_rf l0), (1, 1, .int l1)] []
  unfold J14_append at h
  refine J_aload_n (i := 0) 0 1 dJ14_append_0 rfl rfl rfl ?_
  refine J_iload_n (i := 1) 1 2 dJ14_append_1 rfl rfl rfl ?_
  obtain ⟨b2, hb2, h⟩ := some_of_bind h
  obtain ⟨q1, hq1, h⟩ := some_of_bind h
  refine J_cPr 5 dJ14_append_2 rfl ykJ13_append q819 q2978 q814 q820 (by decide) (Nat.le_of_ble_eq_true rfl) cs_nil (by decide) [.int l1] hb2 (by decide) rfl rfl rfl (sJ13_append hγ l0 l1 σ q1 hq1) ?_
  refine J_popr 6 dJ14_append_5 rfl ?_
  refine J_aload_n (i := 0) 0 7 dJ14_append_6 rfl rfl rfl ?_
  exact J_aret rfl (Or.inl ⟨_, rfl⟩) dJ14_append_7 (retR h)
abbrev mJ16_signedHashCode : MP := (cJ16_signedHashCode, "jdk/internal/util/ArraysSupport", 6, (Option.some FieldType.int), 0, "signedHashCode", [])
theorem ykJ16_signedHashCode : YK yJ16_signedHashCode mJ16_signedHashCode 4 := ⟨q992, q153, ⟨by decide, by decide⟩, by decide +kernel, Nat.le_of_ble_eq_true rfl, by decide, rfl, rfl⟩
def J16_signedHashCode_c8 (l1 : Option Nat) (l4 : Int32)  : Nat → Int32 → Int32 → Hp → Option (Int32 × Hp)
  | 0, _, _, _ => none
  | n + 1, l0, l5, σ =>
    if l4 ≤ l5 then
      some (l0, σ)
    else
      (aI 2 σ l1 l5).bind fun v2 =>
      J16_signedHashCode_c8 l1 l4 n (((31 : Int32) * l0) + (v2 &&& (255 : Int32))) (l5 + (1 : Int32)) σ
set_option maxHeartbeats 4000000 in
theorem jJ16_signedHashCode_c8 {γ : GP} {σ0 : Hp} {q : (Int32 × Hp)} (hγ : GOK γ) (l1 : Option Nat) (l4 : Int32)  : ∀ (n : Nat) (l0 : Int32) (l5 : Int32) (σ : Hp), J16_signedHashCode_c8 l1 l4 n l0 l5 σ = some q → J γ mJ16_signedHashCode (σ0, .inr (some (.int q.1)), q.2) σ 8 [(0, 1, .int l0), (1, 1, va_rf l1), (4, 1, .int l4), (5, 1, .int l5)] [] := by
  intro n
  induction n with
  | zero => intro l0 l5 σ h; exact nomatch (show none = some q from h)
  | succ n ih =>
    intro l0 l5 σ h
    rw [J16_signedHashCode_c8] at h
    refine J_iload (i := 5) 3 10 dJ16_signedHashCode_8 rfl rfl ?_
    refine J_iload (i := 4) 2 12 dJ16_signedHashCode_10 rfl rfl ?_
    refine J_icmp_ge 35 15 dJ16_signedHashCode_12 (by decide) rfl (fun c1 => ?_) (fun c1 => ?_)
    · rw [if_pos c1] at h
      refine J_iload_n (i := 0) 0 36 dJ16_signedHashCode_35 rfl rfl rfl ?_
      exact J_iret rfl dJ16_signedHashCode_36 (retI h)
    · rw [if_neg c1] at h
      refine J_bipush 17 dJ16_signedHashCode_15 rfl (31 : Int32) kbp_31 ?_
      refine J_iload_n (i := 0) 0 18 dJ16_signedHashCode_17 rfl rfl rfl ?_
      refine J_imul 19 dJ16_signedHashCode_18 rfl ?_
      refine J_aload_n (i := 1) 1 20 dJ16_signedHashCode_19 rfl rfl rfl ?_
      refine J_iload (i := 5) 3 22 dJ16_signedHashCode_20 rfl rfl ?_
      obtain ⟨v2, hv2, h⟩ := some_of_bind h
      refine J_bald 23 dJ16_signedHashCode_22 rfl hv2 ?_
      refine J_sipush 26 dJ16_signedHashCode_23 rfl (255 : Int32) ksp_255 ?_
      refine J_iand 27 dJ16_signedHashCode_26 rfl ?_
      refine J_iadd 28 dJ16_signedHashCode_27 rfl ?_
      refine J_istore_n (i := 0) 29 [(0, 1, .int (((31 : Int32) * l0) + (v2 &&& (255 : Int32)))), (1, 1, va_rf l1), (4, 1, .int l4), (5, 1, .int l5)] dJ16_signedHashCode_28 rfl rfl (Nat.le_of_ble_eq_true rfl) rfl ?_
      refine J_iinc (i := 5) (v := l5 + (1 : Int32)) 3 32 [(5, 1, .int (l5 + (1 : Int32))), (0, 1, .int (((31 : Int32) * l0) + (v2 &&& (255 : Int32)))), (1, 1, va_rf l1), (4, 1, .int l4)] dJ16_signedHashCode_29 rfl rfl (Nat.le_of_ble_eq_true rfl) (by rw [kic_1]) rfl ?_
      refine J_goto 8 dJ16_signedHashCode_32 (by decide) ?_
      refine J.pick [1, 2, 3, 0] rfl ?_
      exact ih (((31 : Int32) * l0) + (v2 &&& (255 : Int32))) (l5 + (1 : Int32)) σ h
def J16_signedHashCode (l0 : Int32) (l1 : Option Nat) (l2 : Int32) (l3 : Int32) (σ : Hp) : Option (Int32 × Hp) :=
  J16_signedHashCode_c8 l1 (l2 + l3)  FUEL l0 l2 σ
set_option maxHeartbeats 4000000 in
theorem sJ16_signedHashCode {γ : GP} (hγ : GOK γ) (l0 : Int32) (l1 : Option Nat) (l2 : Int32) (l3 : Int32) (σ : Hp) (q : (Int32 × Hp)) (h : J16_signedHashCode l0 l1 l2 l3 σ = some q) : Rn γ mJ16_signedHashCode yJ16_signedHashCode [.int l0, va_rf l1, .int l2, .int l3] (σ, .inr (some (.int q.1)), q.2) := by
  refine J_m hγ ykJ16_signedHashCode rfl [(1, .int l0), (1, va_rf l1), (1, .int l2), (1, .int l3)] (cats_i (cats_r (cats_i (cats_i cats_nil)))) (Nat.le_of_ble_eq_true rfl) ?_
  show J γ mJ16_signedHashCode _ σ 0 [(0, 1, .int l0), (1, 1, va_rf l1), (2, 1, .int l2), (3, 1, .int l3)] []
  unfold J16_signedHashCode at h
  refine J_iload_n (i := 2) 2 1 dJ16_signedHashCode_0 rfl rfl rfl ?_
  refine J_iload_n (i := 3) 3 2 dJ16_signedHashCode_1 rfl rfl rfl ?_
  refine J_iadd 3 dJ16_signedHashCode_2 rfl ?_
  refine J_istore (i := 4) 5 [(4, 1, .int (l2 + l3)), (0, 1, .int l0), (1, 1, va_rf l1), (2, 1, .int l2), (3, 1, .int l3)] dJ16_signedHashCode_3 rfl (Nat.le_of_ble_eq_true rfl) rfl ?_
  refine J_iload_n (i := 2) 3 6 dJ16_signedHashCode_5 rfl rfl rfl ?_
  refine J_istore (i := 5) 8 [(5, 1, .int l2), (4, 1, .int (l2 + l3)), (0, 1, .int l0), (1, 1, va_rf l1), (2, 1, .int l2), (3, 1, .int l3)] dJ16_signedHashCode_6 rfl (Nat.le_of_ble_eq_true rfl) rfl ?_
  refine J.pick [2, 3, 1, 0] rfl ?_
  refine jJ16_signedHashCode_c8 hγ l1 (l2 + l3)  FUEL l0 l2 σ h
abbrev mJ16_utf16hashCode : MP := (cJ16_utf16hashCode, "jdk/internal/util/ArraysSupport", 6, (Option.some FieldType.int), 1, "utf16hashCode", [])
theorem ykJ16_utf16hashCode : YK yJ16_utf16hashCode mJ16_utf16hashCode 4 := ⟨q995, q153, ⟨by decide, by decide⟩, by decide +kernel, Nat.le_of_ble_eq_true rfl, by decide, rfl, rfl⟩
def J16_utf16hashCode (l0 : Int32) (l1 : Option Nat) (l2 : Int32) (l3 : Int32) (σ : Hp) : Option (Int32 × Hp) :=
  if (l2 + l3) ≤ l2 then
    some (l0, σ)
  else
    none
set_option maxHeartbeats 4000000 in
theorem sJ16_utf16hashCode {γ : GP} (hγ : GOK γ) (l0 : Int32) (l1 : Option Nat) (l2 : Int32) (l3 : Int32) (σ : Hp) (q : (Int32 × Hp)) (h : J16_utf16hashCode l0 l1 l2 l3 σ = some q) : Rn γ mJ16_utf16hashCode yJ16_utf16hashCode [.int l0, va_rf l1, .int l2, .int l3] (σ, .inr (some (.int q.1)), q.2) := by
  refine J_m hγ ykJ16_utf16hashCode rfl [(1, .int l0), (1, va_rf l1), (1, .int l2), (1, .int l3)] (cats_i (cats_r (cats_i (cats_i cats_nil)))) (Nat.le_of_ble_eq_true rfl) ?_
  show J γ mJ16_utf16hashCode _ σ 0 [(0, 1, .int l0), (1, 1, va_rf l1), (2, 1, .int l2), (3, 1, .int l3)] []
  unfold J16_utf16hashCode at h
  refine J_iload_n (i := 2) 2 1 dJ16_utf16hashCode_0 rfl rfl rfl ?_
  refine J_iload_n (i := 3) 3 2 dJ16_utf16hashCode_1 rfl rfl rfl ?_
  refine J_iadd 3 dJ16_utf16hashCode_2 rfl ?_
  refine J_istore (i := 4) 5 [(4, 1, .int (l2 + l3)), (0, 1, .int l0), (1, 1, va_rf l1), (2, 1, .int l2), (3, 1, .int l3)] dJ16_utf16hashCode_3 rfl (Nat.le_of_ble_eq_true rfl) rfl ?_
  refine J_iload_n (i := 2) 3 6 dJ16_utf16hashCode_5 rfl rfl rfl ?_
  refine J_istore (i := 5) 8 [(5, 1, .int l2), (4, 1, .int (l2 + l3)), (0, 1, .int l0), (1, 1, va_rf l1), (2, 1, .int l2), (3, 1, .int l3)] dJ16_utf16hashCode_6 rfl (Nat.le_of_ble_eq_true rfl) rfl ?_
  refine J_iload (i := 5) 0 10 dJ16_utf16hashCode_8 rfl rfl ?_
  refine J_iload (i := 4) 1 12 dJ16_utf16hashCode_10 rfl rfl ?_
  refine J_icmp_ge 38 15 dJ16_utf16hashCode_12 (by decide) rfl (fun c1 => ?_) (fun c1 => ?_)
  · rw [if_pos c1] at h
    refine J_iload_n (i := 0) 2 39 dJ16_utf16hashCode_38 rfl rfl rfl ?_
    exact J_iret rfl dJ16_utf16hashCode_39 (retI h)
  · rw [if_neg c1] at h
    refine J_bipush 17 dJ16_utf16hashCode_15 rfl (31 : Int32) kbp_31 ?_
    refine J_iload_n (i := 0) 2 18 dJ16_utf16hashCode_17 rfl rfl rfl ?_
    refine J_imul 19 dJ16_utf16hashCode_18 rfl ?_
    cases h
abbrev mJ16_hashCode : MP := (cJ16_hashCode, "jdk/internal/util/ArraysSupport", 6, (Option.some FieldType.int), 0, "hashCode", [])
theorem ykJ16_hashCode : YK yJ16_hashCode mJ16_hashCode 4 := ⟨q1012, q153, ⟨by decide, by decide⟩, by decide +kernel, Nat.le_of_ble_eq_true rfl, by decide, rfl, rfl⟩
def J16_hashCode_c8 (l1 : Option Nat) (l4 : Int32)  : Nat → Int32 → Int32 → Hp → Option (Int32 × Hp)
  | 0, _, _, _ => none
  | n + 1, l0, l5, σ =>
    if l4 ≤ l5 then
      some (l0, σ)
    else
      none
set_option maxHeartbeats 4000000 in
theorem jJ16_hashCode_c8 {γ : GP} {σ0 : Hp} {q : (Int32 × Hp)} (hγ : GOK γ) (l1 : Option Nat) (l4 : Int32)  : ∀ (n : Nat) (l0 : Int32) (l5 : Int32) (σ : Hp), J16_hashCode_c8 l1 l4 n l0 l5 σ = some q → J γ mJ16_hashCode (σ0, .inr (some (.int q.1)), q.2) σ 8 [(0, 1, .int l0), (1, 1, va_rf l1), (4, 1, .int l4), (5, 1, .int l5)] [] := by
  intro n
  induction n with
  | zero => intro l0 l5 σ h; exact nomatch (show none = some q from h)
  | succ n ih =>
    intro l0 l5 σ h
    rw [J16_hashCode_c8] at h
    refine J_iload (i := 5) 3 10 dJ16_hashCode_8 rfl rfl ?_
    refine J_iload (i := 4) 2 12 dJ16_hashCode_10 rfl rfl ?_
    refine J_icmp_ge 31 15 dJ16_hashCode_12 (by decide) rfl (fun c1 => ?_) (fun c1 => ?_)
    · rw [if_pos c1] at h
      refine J_iload_n (i := 0) 0 32 dJ16_hashCode_31 rfl rfl rfl ?_
      exact J_iret rfl dJ16_hashCode_32 (retI h)
    · rw [if_neg c1] at h
      refine J_bipush 17 dJ16_hashCode_15 rfl (31 : Int32) kbp_31 ?_
      refine J_iload_n (i := 0) 0 18 dJ16_hashCode_17 rfl rfl rfl ?_
      refine J_imul 19 dJ16_hashCode_18 rfl ?_
      refine J_aload_n (i := 1) 1 20 dJ16_hashCode_19 rfl rfl rfl ?_
      refine J_iload (i := 5) 3 22 dJ16_hashCode_20 rfl rfl ?_
      cases h
def J16_hashCode (l0 : Int32) (l1 : Option Nat) (l2 : Int32) (l3 : Int32) (σ : Hp) : Option (Int32 × Hp) :=
  J16_hashCode_c8 l1 (l2 + l3)  FUEL l0 l2 σ
set_option maxHeartbeats 4000000 in
theorem sJ16_hashCode {γ : GP} (hγ : GOK γ) (l0 : Int32) (l1 : Option Nat) (l2 : Int32) (l3 : Int32) (σ : Hp) (q : (Int32 × Hp)) (h : J16_hashCode l0 l1 l2 l3 σ = some q) : Rn γ mJ16_hashCode yJ16_hashCode [.int l0, va_rf l1, .int l2, .int l3] (σ, .inr (some (.int q.1)), q.2) := by
  refine J_m hγ ykJ16_hashCode rfl [(1, .int l0), (1, va_rf l1), (1, .int l2), (1, .int l3)] (cats_i (cats_r (cats_i (cats_i cats_nil)))) (Nat.le_of_ble_eq_true rfl) ?_
  show J γ mJ16_hashCode _ σ 0 [(0, 1, .int l0), (1, 1, va_rf l1), (2, 1, .int l2), (3, 1, .int l3)] []
  unfold J16_hashCode at h
  refine J_iload_n (i := 2) 2 1 dJ16_hashCode_0 rfl rfl rfl ?_
  refine J_iload_n (i := 3) 3 2 dJ16_hashCode_1 rfl rfl rfl ?_
  refine J_iadd 3 dJ16_hashCode_2 rfl ?_
  refine J_istore (i := 4) 5 [(4, 1, .int (l2 + l3)), (0, 1, .int l0), (1, 1, va_rf l1), (2, 1, .int l2), (3, 1, .int l3)] dJ16_hashCode_3 rfl (Nat.le_of_ble_eq_true rfl) rfl ?_
  refine J_iload_n (i := 2) 3 6 dJ16_hashCode_5 rfl rfl rfl ?_
  refine J_istore (i := 5) 8 [(5, 1, .int l2), (4, 1, .int (l2 + l3)), (0, 1, .int l0), (1, 1, va_rf l1), (2, 1, .int l2), (3, 1, .int l3)] dJ16_hashCode_6 rfl (Nat.le_of_ble_eq_true rfl) rfl ?_
  refine J.pick [2, 3, 1, 0] rfl ?_
  refine jJ16_hashCode_c8 hγ l1 (l2 + l3)  FUEL l0 l2 σ h
abbrev mJ16_hashCode_2 : MP := (cJ16_hashCode_2, "jdk/internal/util/ArraysSupport", 6, (Option.some FieldType.int), 0, "hashCode", [])
theorem ykJ16_hashCode_2 : YK yJ16_hashCode_2 mJ16_hashCode_2 4 := ⟨q1015, q153, ⟨by decide, by decide⟩, by decide +kernel, Nat.le_of_ble_eq_true rfl, by decide, rfl, rfl⟩
def J16_hashCode_2_c8 (l1 : Option Nat) (l4 : Int32)  : Nat → Int32 → Int32 → Hp → Option (Int32 × Hp)
  | 0, _, _, _ => none
  | n + 1, l0, l5, σ =>
    if l4 ≤ l5 then
      some (l0, σ)
    else
      (aI 2 σ l1 l5).bind fun v2 =>
      J16_hashCode_2_c8 l1 l4 n (((31 : Int32) * l0) + v2) (l5 + (1 : Int32)) σ
set_option maxHeartbeats 4000000 in
theorem jJ16_hashCode_2_c8 {γ : GP} {σ0 : Hp} {q : (Int32 × Hp)} (hγ : GOK γ) (l1 : Option Nat) (l4 : Int32)  : ∀ (n : Nat) (l0 : Int32) (l5 : Int32) (σ : Hp), J16_hashCode_2_c8 l1 l4 n l0 l5 σ = some q → J γ mJ16_hashCode_2 (σ0, .inr (some (.int q.1)), q.2) σ 8 [(0, 1, .int l0), (1, 1, va_rf l1), (4, 1, .int l4), (5, 1, .int l5)] [] := by
  intro n
  induction n with
  | zero => intro l0 l5 σ h; exact nomatch (show none = some q from h)
  | succ n ih =>
    intro l0 l5 σ h
    rw [J16_hashCode_2_c8] at h
    refine J_iload (i := 5) 3 10 dJ16_hashCode_2_8 rfl rfl ?_
    refine J_iload (i := 4) 2 12 dJ16_hashCode_2_10 rfl rfl ?_
    refine J_icmp_ge 31 15 dJ16_hashCode_2_12 (by decide) rfl (fun c1 => ?_) (fun c1 => ?_)
    · rw [if_pos c1] at h
      refine J_iload_n (i := 0) 0 32 dJ16_hashCode_2_31 rfl rfl rfl ?_
      exact J_iret rfl dJ16_hashCode_2_32 (retI h)
    · rw [if_neg c1] at h
      refine J_bipush 17 dJ16_hashCode_2_15 rfl (31 : Int32) kbp_31 ?_
      refine J_iload_n (i := 0) 0 18 dJ16_hashCode_2_17 rfl rfl rfl ?_
      refine J_imul 19 dJ16_hashCode_2_18 rfl ?_
      refine J_aload_n (i := 1) 1 20 dJ16_hashCode_2_19 rfl rfl rfl ?_
      refine J_iload (i := 5) 3 22 dJ16_hashCode_2_20 rfl rfl ?_
      obtain ⟨v2, hv2, h⟩ := some_of_bind h
      refine J_bald 23 dJ16_hashCode_2_22 rfl hv2 ?_
      refine J_iadd 24 dJ16_hashCode_2_23 rfl ?_
      refine J_istore_n (i := 0) 25 [(0, 1, .int (((31 : Int32) * l0) + v2)), (1, 1, va_rf l1), (4, 1, .int l4), (5, 1, .int l5)] dJ16_hashCode_2_24 rfl rfl (Nat.le_of_ble_eq_true rfl) rfl ?_
      refine J_iinc (i := 5) (v := l5 + (1 : Int32)) 3 28 [(5, 1, .int (l5 + (1 : Int32))), (0, 1, .int (((31 : Int32) * l0) + v2)), (1, 1, va_rf l1), (4, 1, .int l4)] dJ16_hashCode_2_25 rfl rfl (Nat.le_of_ble_eq_true rfl) (by rw [kic_1]) rfl ?_
      refine J_goto 8 dJ16_hashCode_2_28 (by decide) ?_
      refine J.pick [1, 2, 3, 0] rfl ?_
      exact ih (((31 : Int32) * l0) + v2) (l5 + (1 : Int32)) σ h
def J16_hashCode_2 (l0 : Int32) (l1 : Option Nat) (l2 : Int32) (l3 : Int32) (σ : Hp) : Option (Int32 × Hp) :=
  J16_hashCode_2_c8 l1 (l2 + l3)  FUEL l0 l2 σ
set_option maxHeartbeats 4000000 in
theorem sJ16_hashCode_2 {γ : GP} (hγ : GOK γ) (l0 : Int32) (l1 : Option Nat) (l2 : Int32) (l3 : Int32) (σ : Hp) (q : (Int32 × Hp)) (h : J16_hashCode_2 l0 l1 l2 l3 σ = some q) : Rn γ mJ16_hashCode_2 yJ16_hashCode_2 [.int l0, va_rf l1, .int l2, .int l3] (σ, .inr (some (.int q.1)), q.2) := by
  refine J_m hγ ykJ16_hashCode_2 rfl [(1, .int l0), (1, va_rf l1), (1, .int l2), (1, .int l3)] (cats_i (cats_r (cats_i (cats_i cats_nil)))) (Nat.le_of_ble_eq_true rfl) ?_
  show J γ mJ16_hashCode_2 _ σ 0 [(0, 1, .int l0), (1, 1, va_rf l1), (2, 1, .int l2), (3, 1, .int l3)] []
  unfold J16_hashCode_2 at h
  refine J_iload_n (i := 2) 2 1 dJ16_hashCode_2_0 rfl rfl rfl ?_
  refine J_iload_n (i := 3) 3 2 dJ16_hashCode_2_1 rfl rfl rfl ?_
  refine J_iadd 3 dJ16_hashCode_2_2 rfl ?_
  refine J_istore (i := 4) 5 [(4, 1, .int (l2 + l3)), (0, 1, .int l0), (1, 1, va_rf l1), (2, 1, .int l2), (3, 1, .int l3)] dJ16_hashCode_2_3 rfl (Nat.le_of_ble_eq_true rfl) rfl ?_
  refine J_iload_n (i := 2) 3 6 dJ16_hashCode_2_5 rfl rfl rfl ?_
  refine J_istore (i := 5) 8 [(5, 1, .int l2), (4, 1, .int (l2 + l3)), (0, 1, .int l0), (1, 1, va_rf l1), (2, 1, .int l2), (3, 1, .int l3)] dJ16_hashCode_2_6 rfl (Nat.le_of_ble_eq_true rfl) rfl ?_
  refine J.pick [2, 3, 1, 0] rfl ?_
  refine jJ16_hashCode_2_c8 hγ l1 (l2 + l3)  FUEL l0 l2 σ h
abbrev mJ16_hashCode_3 : MP := (cJ16_hashCode_3, "jdk/internal/util/ArraysSupport", 6, (Option.some FieldType.int), 0, "hashCode", [])
theorem ykJ16_hashCode_3 : YK yJ16_hashCode_3 mJ16_hashCode_3 4 := ⟨q1019, q153, ⟨by decide, by decide⟩, by decide +kernel, Nat.le_of_ble_eq_true rfl, by decide, rfl, rfl⟩
def J16_hashCode_3_c8 (l1 : Option Nat) (l4 : Int32)  : Nat → Int32 → Int32 → Hp → Option (Int32 × Hp)
  | 0, _, _, _ => none
  | n + 1, l0, l5, σ =>
    if l4 ≤ l5 then
      some (l0, σ)
    else
      none
set_option maxHeartbeats 4000000 in
theorem jJ16_hashCode_3_c8 {γ : GP} {σ0 : Hp} {q : (Int32 × Hp)} (hγ : GOK γ) (l1 : Option Nat) (l4 : Int32)  : ∀ (n : Nat) (l0 : Int32) (l5 : Int32) (σ : Hp), J16_hashCode_3_c8 l1 l4 n l0 l5 σ = some q → J γ mJ16_hashCode_3 (σ0, .inr (some (.int q.1)), q.2) σ 8 [(0, 1, .int l0), (1, 1, va_rf l1), (4, 1, .int l4), (5, 1, .int l5)] [] := by
  intro n
  induction n with
  | zero => intro l0 l5 σ h; exact nomatch (show none = some q from h)
  | succ n ih =>
    intro l0 l5 σ h
    rw [J16_hashCode_3_c8] at h
    refine J_iload (i := 5) 3 10 dJ16_hashCode_3_8 rfl rfl ?_
    refine J_iload (i := 4) 2 12 dJ16_hashCode_3_10 rfl rfl ?_
    refine J_icmp_ge 31 15 dJ16_hashCode_3_12 (by decide) rfl (fun c1 => ?_) (fun c1 => ?_)
    · rw [if_pos c1] at h
      refine J_iload_n (i := 0) 0 32 dJ16_hashCode_3_31 rfl rfl rfl ?_
      exact J_iret rfl dJ16_hashCode_3_32 (retI h)
    · rw [if_neg c1] at h
      refine J_bipush 17 dJ16_hashCode_3_15 rfl (31 : Int32) kbp_31 ?_
      refine J_iload_n (i := 0) 0 18 dJ16_hashCode_3_17 rfl rfl rfl ?_
      refine J_imul 19 dJ16_hashCode_3_18 rfl ?_
      refine J_aload_n (i := 1) 1 20 dJ16_hashCode_3_19 rfl rfl rfl ?_
      refine J_iload (i := 5) 3 22 dJ16_hashCode_3_20 rfl rfl ?_
      cases h
def J16_hashCode_3 (l0 : Int32) (l1 : Option Nat) (l2 : Int32) (l3 : Int32) (σ : Hp) : Option (Int32 × Hp) :=
  J16_hashCode_3_c8 l1 (l2 + l3)  FUEL l0 l2 σ
set_option maxHeartbeats 4000000 in
theorem sJ16_hashCode_3 {γ : GP} (hγ : GOK γ) (l0 : Int32) (l1 : Option Nat) (l2 : Int32) (l3 : Int32) (σ : Hp) (q : (Int32 × Hp)) (h : J16_hashCode_3 l0 l1 l2 l3 σ = some q) : Rn γ mJ16_hashCode_3 yJ16_hashCode_3 [.int l0, va_rf l1, .int l2, .int l3] (σ, .inr (some (.int q.1)), q.2) := by
  refine J_m hγ ykJ16_hashCode_3 rfl [(1, .int l0), (1, va_rf l1), (1, .int l2), (1, .int l3)] (cats_i (cats_r (cats_i (cats_i cats_nil)))) (Nat.le_of_ble_eq_true rfl) ?_
  show J γ mJ16_hashCode_3 _ σ 0 [(0, 1, .int l0), (1, 1, va_rf l1), (2, 1, .int l2), (3, 1, .int l3)] []
  unfold J16_hashCode_3 at h
  refine J_iload_n (i := 2) 2 1 dJ16_hashCode_3_0 rfl rfl rfl ?_
  refine J_iload_n (i := 3) 3 2 dJ16_hashCode_3_1 rfl rfl rfl ?_
  refine J_iadd 3 dJ16_hashCode_3_2 rfl ?_
  refine J_istore (i := 4) 5 [(4, 1, .int (l2 + l3)), (0, 1, .int l0), (1, 1, va_rf l1), (2, 1, .int l2), (3, 1, .int l3)] dJ16_hashCode_3_3 rfl (Nat.le_of_ble_eq_true rfl) rfl ?_
  refine J_iload_n (i := 2) 3 6 dJ16_hashCode_3_5 rfl rfl rfl ?_
  refine J_istore (i := 5) 8 [(5, 1, .int l2), (4, 1, .int (l2 + l3)), (0, 1, .int l0), (1, 1, va_rf l1), (2, 1, .int l2), (3, 1, .int l3)] dJ16_hashCode_3_6 rfl (Nat.le_of_ble_eq_true rfl) rfl ?_
  refine J.pick [2, 3, 1, 0] rfl ?_
  refine jJ16_hashCode_3_c8 hγ l1 (l2 + l3)  FUEL l0 l2 σ h
abbrev mJ16_hashCode_4 : MP := (cJ16_hashCode_4, "jdk/internal/util/ArraysSupport", 6, (Option.some FieldType.int), 0, "hashCode", [])
theorem ykJ16_hashCode_4 : YK yJ16_hashCode_4 mJ16_hashCode_4 4 := ⟨q1023, q153, ⟨by decide, by decide⟩, by decide +kernel, Nat.le_of_ble_eq_true rfl, by decide, rfl, rfl⟩
def J16_hashCode_4_c8 (l1 : Option Nat) (l4 : Int32)  : Nat → Int32 → Int32 → Hp → Option (Int32 × Hp)
  | 0, _, _, _ => none
  | n + 1, l0, l5, σ =>
    if l4 ≤ l5 then
      some (l0, σ)
    else
      (aI 0 σ l1 l5).bind fun v2 =>
      J16_hashCode_4_c8 l1 l4 n (((31 : Int32) * l0) + v2) (l5 + (1 : Int32)) σ
set_option maxHeartbeats 4000000 in
theorem jJ16_hashCode_4_c8 {γ : GP} {σ0 : Hp} {q : (Int32 × Hp)} (hγ : GOK γ) (l1 : Option Nat) (l4 : Int32)  : ∀ (n : Nat) (l0 : Int32) (l5 : Int32) (σ : Hp), J16_hashCode_4_c8 l1 l4 n l0 l5 σ = some q → J γ mJ16_hashCode_4 (σ0, .inr (some (.int q.1)), q.2) σ 8 [(0, 1, .int l0), (1, 1, va_rf l1), (4, 1, .int l4), (5, 1, .int l5)] [] := by
  intro n
  induction n with
  | zero => intro l0 l5 σ h; exact nomatch (show none = some q from h)
  | succ n ih =>
    intro l0 l5 σ h
    rw [J16_hashCode_4_c8] at h
    refine J_iload (i := 5) 3 10 dJ16_hashCode_4_8 rfl rfl ?_
    refine J_iload (i := 4) 2 12 dJ16_hashCode_4_10 rfl rfl ?_
    refine J_icmp_ge 31 15 dJ16_hashCode_4_12 (by decide) rfl (fun c1 => ?_) (fun c1 => ?_)
    · rw [if_pos c1] at h
      refine J_iload_n (i := 0) 0 32 dJ16_hashCode_4_31 rfl rfl rfl ?_
      exact J_iret rfl dJ16_hashCode_4_32 (retI h)
    · rw [if_neg c1] at h
      refine J_bipush 17 dJ16_hashCode_4_15 rfl (31 : Int32) kbp_31 ?_
      refine J_iload_n (i := 0) 0 18 dJ16_hashCode_4_17 rfl rfl rfl ?_
      refine J_imul 19 dJ16_hashCode_4_18 rfl ?_
      refine J_aload_n (i := 1) 1 20 dJ16_hashCode_4_19 rfl rfl rfl ?_
      refine J_iload (i := 5) 3 22 dJ16_hashCode_4_20 rfl rfl ?_
      obtain ⟨v2, hv2, h⟩ := some_of_bind h
      refine J_iald 23 dJ16_hashCode_4_22 rfl hv2 ?_
      refine J_iadd 24 dJ16_hashCode_4_23 rfl ?_
      refine J_istore_n (i := 0) 25 [(0, 1, .int (((31 : Int32) * l0) + v2)), (1, 1, va_rf l1), (4, 1, .int l4), (5, 1, .int l5)] dJ16_hashCode_4_24 rfl rfl (Nat.le_of_ble_eq_true rfl) rfl ?_
      refine J_iinc (i := 5) (v := l5 + (1 : Int32)) 3 28 [(5, 1, .int (l5 + (1 : Int32))), (0, 1, .int (((31 : Int32) * l0) + v2)), (1, 1, va_rf l1), (4, 1, .int l4)] dJ16_hashCode_4_25 rfl rfl (Nat.le_of_ble_eq_true rfl) (by rw [kic_1]) rfl ?_
      refine J_goto 8 dJ16_hashCode_4_28 (by decide) ?_
      refine J.pick [1, 2, 3, 0] rfl ?_
      exact ih (((31 : Int32) * l0) + v2) (l5 + (1 : Int32)) σ h
def J16_hashCode_4 (l0 : Int32) (l1 : Option Nat) (l2 : Int32) (l3 : Int32) (σ : Hp) : Option (Int32 × Hp) :=
  J16_hashCode_4_c8 l1 (l2 + l3)  FUEL l0 l2 σ
set_option maxHeartbeats 4000000 in
theorem sJ16_hashCode_4 {γ : GP} (hγ : GOK γ) (l0 : Int32) (l1 : Option Nat) (l2 : Int32) (l3 : Int32) (σ : Hp) (q : (Int32 × Hp)) (h : J16_hashCode_4 l0 l1 l2 l3 σ = some q) : Rn γ mJ16_hashCode_4 yJ16_hashCode_4 [.int l0, va_rf l1, .int l2, .int l3] (σ, .inr (some (.int q.1)), q.2) := by
  refine J_m hγ ykJ16_hashCode_4 rfl [(1, .int l0), (1, va_rf l1), (1, .int l2), (1, .int l3)] (cats_i (cats_r (cats_i (cats_i cats_nil)))) (Nat.le_of_ble_eq_true rfl) ?_
  show J γ mJ16_hashCode_4 _ σ 0 [(0, 1, .int l0), (1, 1, va_rf l1), (2, 1, .int l2), (3, 1, .int l3)] []
  unfold J16_hashCode_4 at h
  refine J_iload_n (i := 2) 2 1 dJ16_hashCode_4_0 rfl rfl rfl ?_
  refine J_iload_n (i := 3) 3 2 dJ16_hashCode_4_1 rfl rfl rfl ?_
  refine J_iadd 3 dJ16_hashCode_4_2 rfl ?_
  refine J_istore (i := 4) 5 [(4, 1, .int (l2 + l3)), (0, 1, .int l0), (1, 1, va_rf l1), (2, 1, .int l2), (3, 1, .int l3)] dJ16_hashCode_4_3 rfl (Nat.le_of_ble_eq_true rfl) rfl ?_
  refine J_iload_n (i := 2) 3 6 dJ16_hashCode_4_5 rfl rfl rfl ?_
  refine J_istore (i := 5) 8 [(5, 1, .int l2), (4, 1, .int (l2 + l3)), (0, 1, .int l0), (1, 1, va_rf l1), (2, 1, .int l2), (3, 1, .int l3)] dJ16_hashCode_4_6 rfl (Nat.le_of_ble_eq_true rfl) rfl ?_
  refine J.pick [2, 3, 1, 0] rfl ?_
  refine jJ16_hashCode_4_c8 hγ l1 (l2 + l3)  FUEL l0 l2 σ h
abbrev mJ16_vectorizedHashCode : MP := (cJ16_vectorizedHashCode, "jdk/internal/util/ArraysSupport", 5, (Option.some FieldType.int), 2, "vectorizedHashCode", [])
theorem ykJ16_vectorizedHashCode : YK yJ16_vectorizedHashCode mJ16_vectorizedHashCode 5 := ⟨q988, q153, ⟨by decide, by decide⟩, by decide +kernel, Nat.le_of_ble_eq_true rfl, by decide, rfl, rfl⟩
def J16_vectorizedHashCode (l0 : Option Nat) (l1 : Int32) (l2 : Int32) (l3 : Int32) (l4 : Int32) (σ : Hp) : Option (Int32 × Hp) :=
  if l4 = (4 : Int32) then
    (cT σ l0 102).bind fun b2 =>
    (J16_signedHashCode l3 l0 l1 l2 σ).bind fun q3 =>
    some (q3.1, q3.2)
  else
  if l4 = (5 : Int32) then
    none
  else
  if l4 = (6 : Int32) then
    none
  else
  if l4 = (7 : Int32) then
    none
  else
  if l4 = (8 : Int32) then
    (cT σ l0 102).bind fun b8 =>
    (J16_hashCode_2 l3 l0 l1 l2 σ).bind fun q9 =>
    some (q9.1, q9.2)
  else
  if l4 = (9 : Int32) then
    none
  else
  if l4 = (10 : Int32) then
    none
  else
  none
set_option maxHeartbeats 4000000 in
theorem sJ16_vectorizedHashCode {γ : GP} (hγ : GOK γ) (l0 : Option Nat) (l1 : Int32) (l2 : Int32) (l3 : Int32) (l4 : Int32) (σ : Hp) (q : (Int32 × Hp)) (h : J16_vectorizedHashCode l0 l1 l2 l3 l4 σ = some q) : Rn γ mJ16_vectorizedHashCode yJ16_vectorizedHashCode [va_rf l0, .int l1, .int l2, .int l3, .int l4] (σ, .inr (some (.int q.1)), q.2) := by
  refine J_m hγ ykJ16_vectorizedHashCode rfl [(1, va_rf l0), (1, .int l1), (1, .int l2), (1, .int l3), (1, .int l4)] (cats_r (cats_i (cats_i (cats_i (cats_i cats_nil))))) (Nat.le_of_ble_eq_true rfl) ?_
  show J γ mJ16_vectorizedHashCode _ σ 0 [(0, 1, va_rf l0), (1, 1, .int l1), (2, 1, .int l2), (3, 1, .int l3), (4, 1, .int l4)] []
  unfold J16_vectorizedHashCode at h
  refine J_iload (i := 4) 4 2 dJ16_vectorizedHashCode_0 rfl rfl ?_
  rcases Classical.em (l4 = (4 : Int32)) with c1 | c1
  · rw [if_pos c1] at h
    refine J_tsC c1 44 dJ16_vectorizedHashCode_2 (by decide) (by decide) rfl (by decide) ?_
    refine J_iload_n (i := 3) 3 45 dJ16_vectorizedHashCode_44 rfl rfl rfl ?_
    refine J_aload_n (i := 0) 0 46 dJ16_vectorizedHashCode_45 rfl rfl rfl ?_
    obtain ⟨b2, hb2, h⟩ := some_of_bind h
    refine J_castB hb2 q989 49 dJ16_vectorizedHashCode_46 rfl ?_
    refine J_iload_n (i := 1) 1 50 dJ16_vectorizedHashCode_49 rfl rfl rfl ?_
    refine J_iload_n (i := 2) 2 51 dJ16_vectorizedHashCode_50 rfl rfl rfl ?_
    obtain ⟨q3, hq3, h⟩ := some_of_bind h
    refine J_cSi 54 dJ16_vectorizedHashCode_51 rfl ykJ16_signedHashCode (Or.inl q990) q991 (Nat.le_of_ble_eq_true rfl) cs_nil (by decide) [.int l3, va_rf l0, .int l1, .int l2] rfl rfl (sJ16_signedHashCode hγ l3 l0 l1 l2 σ q3 hq3) ?_
    refine J_goto 157 dJ16_vectorizedHashCode_54 (by decide) ?_
    exact J_iret rfl dJ16_vectorizedHashCode_157 (retI h)
  · rw [if_neg c1] at h
    rcases Classical.em (l4 = (5 : Int32)) with c4 | c4
    · rw [if_pos c4] at h
      refine J_tsC c4 57 dJ16_vectorizedHashCode_2 (by decide) (by decide) rfl (by decide) ?_
      refine J_aload_n (i := 0) 0 58 dJ16_vectorizedHashCode_57 rfl rfl rfl ?_
      cases h
    · rw [if_neg c4] at h
      rcases Classical.em (l4 = (6 : Int32)) with c5 | c5
      · rw [if_pos c5] at h
        refine J_tsC c5 129 dJ16_vectorizedHashCode_2 (by decide) (by decide) rfl (by decide) ?_
        cases h
      · rw [if_neg c5] at h
        rcases Classical.em (l4 = (7 : Int32)) with c6 | c6
        · rw [if_pos c6] at h
          refine J_tsC c6 129 dJ16_vectorizedHashCode_2 (by decide) (by decide) rfl (by decide) ?_
          cases h
        · rw [if_neg c6] at h
          rcases Classical.em (l4 = (8 : Int32)) with c7 | c7
          · rw [if_pos c7] at h
            refine J_tsC c7 90 dJ16_vectorizedHashCode_2 (by decide) (by decide) rfl (by decide) ?_
            refine J_iload_n (i := 3) 3 91 dJ16_vectorizedHashCode_90 rfl rfl rfl ?_
            refine J_aload_n (i := 0) 0 92 dJ16_vectorizedHashCode_91 rfl rfl rfl ?_
            obtain ⟨b8, hb8, h⟩ := some_of_bind h
            refine J_castB hb8 q989 95 dJ16_vectorizedHashCode_92 rfl ?_
            refine J_iload_n (i := 1) 1 96 dJ16_vectorizedHashCode_95 rfl rfl rfl ?_
            refine J_iload_n (i := 2) 2 97 dJ16_vectorizedHashCode_96 rfl rfl rfl ?_
            obtain ⟨q9, hq9, h⟩ := some_of_bind h
            refine J_cSi 100 dJ16_vectorizedHashCode_97 rfl ykJ16_hashCode_2 (Or.inl q1013) q1014 (Nat.le_of_ble_eq_true rfl) cs_nil (by decide) [.int l3, va_rf l0, .int l1, .int l2] rfl rfl (sJ16_hashCode_2 hγ l3 l0 l1 l2 σ q9 hq9) ?_
            refine J_goto 157 dJ16_vectorizedHashCode_100 (by decide) ?_
            exact J_iret rfl dJ16_vectorizedHashCode_157 (retI h)
          · rw [if_neg c7] at h
            rcases Classical.em (l4 = (9 : Int32)) with c10 | c10
            · rw [if_pos c10] at h
              refine J_tsC c10 103 dJ16_vectorizedHashCode_2 (by decide) (by decide) rfl (by decide) ?_
              refine J_iload_n (i := 3) 3 104 dJ16_vectorizedHashCode_103 rfl rfl rfl ?_
              refine J_aload_n (i := 0) 0 105 dJ16_vectorizedHashCode_104 rfl rfl rfl ?_
              cases h
            · rw [if_neg c10] at h
              rcases Classical.em (l4 = (10 : Int32)) with c11 | c11
              · rw [if_pos c11] at h
                refine J_tsC c11 116 dJ16_vectorizedHashCode_2 (by decide) (by decide) rfl (by decide) ?_
                refine J_iload_n (i := 3) 3 117 dJ16_vectorizedHashCode_116 rfl rfl rfl ?_
                refine J_aload_n (i := 0) 0 118 dJ16_vectorizedHashCode_117 rfl rfl rfl ?_
                cases h
              · rw [if_neg c11] at h
                refine J_tsOut 129 dJ16_vectorizedHashCode_2 (by have a0 := lv_neT c1 (a := 4) (by decide); have a1 := lv_neT c4 (a := 5) (by decide); have a2 := lv_neT c5 (a := 6) (by decide); have a3 := lv_neT c6 (a := 7) (by decide); have a4 := lv_neT c7 (a := 8) (by decide); have a5 := lv_neT c10 (a := 9) (by decide); have a6 := lv_neT c11 (a := 10) (by decide); omega) (by decide) ?_
                cases h
abbrev mJ17_hashCode : MP := (cJ17_hashCode, "java/lang/StringLatin1", 1, (Option.some FieldType.int), 3, "hashCode", [])
theorem ykJ17_hashCode : YK yJ17_hashCode mJ17_hashCode 1 := ⟨q985, q154, ⟨by decide, by decide⟩, by decide +kernel, Nat.le_of_ble_eq_true rfl, by decide, rfl, rfl⟩
def J17_hashCode (l0 : Option Nat) (σ : Hp) : Option (Int32 × Hp) :=
  (aN σ l0).bind fun v1 =>
  if v1 = (0 : Int32) then
    some ((0 : Int32), σ)
  else
  if v1 = (1 : Int32) then
    (aI 2 σ l0 (0 : Int32)).bind fun v4 =>
    some ((v4 &&& (255 : Int32)), σ)
  else
  (aN σ l0).bind fun v5 =>
  (J16_vectorizedHashCode l0 (0 : Int32) v5 (0 : Int32) (4 : Int32) σ).bind fun q6 =>
  some (q6.1, q6.2)
set_option maxHeartbeats 4000000 in
theorem sJ17_hashCode {γ : GP} (hγ : GOK γ) (l0 : Option Nat) (σ : Hp) (q : (Int32 × Hp)) (h : J17_hashCode l0 σ = some q) : Rn γ mJ17_hashCode yJ17_hashCode [va_rf l0] (σ, .inr (some (.int q.1)), q.2) := by
  refine J_m hγ ykJ17_hashCode rfl [(1, va_rf l0)] (cats_r cats_nil) (Nat.le_of_ble_eq_true rfl) ?_
  show J γ mJ17_hashCode _ σ 0 [(0, 1, va_rf l0)] []
  unfold J17_hashCode at h
  refine J_aload_n (i := 0) 0 1 dJ17_hashCode_0 rfl rfl rfl ?_
  obtain ⟨v1, hv1, h⟩ := some_of_bind h
  refine J_alen 2 dJ17_hashCode_1 rfl hv1 ?_
  rcases Classical.em (v1 = (0 : Int32)) with c2 | c2
  · rw [if_pos c2] at h
    refine J_lsw 28 dJ17_hashCode_2 (by decide) (by rw [c2] <;> decide) (by decide) ?_
    refine J_ic 29 dJ17_hashCode_28 rfl (0 : Int32) kic_0 ?_
    refine J_goto 51 dJ17_hashCode_29 (by decide) ?_
    exact J_iret rfl dJ17_hashCode_51 (retI h)
  · rw [if_neg c2] at h
    rcases Classical.em (v1 = (1 : Int32)) with c3 | c3
    · rw [if_pos c3] at h
      refine J_lsw 32 dJ17_hashCode_2 (by decide) (by rw [c3] <;> decide) (by decide) ?_
      refine J_aload_n (i := 0) 0 33 dJ17_hashCode_32 rfl rfl rfl ?_
      refine J_ic 34 dJ17_hashCode_33 rfl (0 : Int32) kic_0 ?_
      obtain ⟨v4, hv4, h⟩ := some_of_bind h
      refine J_bald 35 dJ17_hashCode_34 rfl hv4 ?_
      refine J_sipush 38 dJ17_hashCode_35 rfl (255 : Int32) ksp_255 ?_
      refine J_iand 39 dJ17_hashCode_38 rfl ?_
      refine J_goto 51 dJ17_hashCode_39 (by decide) ?_
      exact J_iret rfl dJ17_hashCode_51 (retI h)
    · rw [if_neg c3] at h
      refine J_lsw (off := 40) 42 dJ17_hashCode_2 (by decide) ((lv_osw c2 (by decide)).trans ((lv_osw c3 (by decide)).trans rfl)) (by decide) ?_
      refine J_aload_n (i := 0) 0 43 dJ17_hashCode_42 rfl rfl rfl ?_
      refine J_ic 44 dJ17_hashCode_43 rfl (0 : Int32) kic_0 ?_
      refine J_aload_n (i := 0) 0 45 dJ17_hashCode_44 rfl rfl rfl ?_
      obtain ⟨v5, hv5, h⟩ := some_of_bind h
      refine J_alen 46 dJ17_hashCode_45 rfl hv5 ?_
      refine J_ic 47 dJ17_hashCode_46 rfl (0 : Int32) kic_0 ?_
      refine J_ic 48 dJ17_hashCode_47 rfl (4 : Int32) kic_4 ?_
      obtain ⟨q6, hq6, h⟩ := some_of_bind h
      refine J_cSi 51 dJ17_hashCode_48 rfl ykJ16_vectorizedHashCode (Or.inl q986) q987 (Nat.le_of_ble_eq_true rfl) cs_nil (by decide) [va_rf l0, .int (0 : Int32), .int v5, .int (0 : Int32), .int (4 : Int32)] rfl rfl (sJ16_vectorizedHashCode hγ l0 (0 : Int32) v5 (0 : Int32) (4 : Int32) σ q6 hq6) ?_
      exact J_iret rfl dJ17_hashCode_51 (retI h)
abbrev mJ15_hashCode : MP := (cJ15_hashCode, "java/lang/StringUTF16", 1, (Option.some FieldType.int), 3, "hashCode", [])
theorem ykJ15_hashCode : YK yJ15_hashCode mJ15_hashCode 1 := ⟨q1026, q152, ⟨by decide, by decide⟩, by decide +kernel, Nat.le_of_ble_eq_true rfl, by decide, rfl, rfl⟩
def J15_hashCode (l0 : Option Nat) (σ : Hp) : Option (Int32 × Hp) :=
  (aN σ l0).bind fun v1 =>
  if v1 = (0 : Int32) then
    some ((0 : Int32), σ)
  else
  if v1 = (2 : Int32) then
    (J15_getChar l0 (0 : Int32) σ).bind fun q4 =>
    some (q4.1, q4.2)
  else
  (aN σ l0).bind fun v5 =>
  (J16_vectorizedHashCode l0 (0 : Int32) (v5 >>> ((1 : Int32) &&& 31)) (0 : Int32) (5 : Int32) σ).bind fun q6 =>
  some (q6.1, q6.2)
set_option maxHeartbeats 4000000 in
theorem sJ15_hashCode {γ : GP} (hγ : GOK γ) (l0 : Option Nat) (σ : Hp) (q : (Int32 × Hp)) (h : J15_hashCode l0 σ = some q) : Rn γ mJ15_hashCode yJ15_hashCode [va_rf l0] (σ, .inr (some (.int q.1)), q.2) := by
  refine J_m hγ ykJ15_hashCode rfl [(1, va_rf l0)] (cats_r cats_nil) (Nat.le_of_ble_eq_true rfl) ?_
  show J γ mJ15_hashCode _ σ 0 [(0, 1, va_rf l0)] []
  unfold J15_hashCode at h
  refine J_aload_n (i := 0) 0 1 dJ15_hashCode_0 rfl rfl rfl ?_
  obtain ⟨v1, hv1, h⟩ := some_of_bind h
  refine J_alen 2 dJ15_hashCode_1 rfl hv1 ?_
  rcases Classical.em (v1 = (0 : Int32)) with c2 | c2
  · rw [if_pos c2] at h
    refine J_lsw 28 dJ15_hashCode_2 (by decide) (by rw [c2] <;> decide) (by decide) ?_
    refine J_ic 29 dJ15_hashCode_28 rfl (0 : Int32) kic_0 ?_
    refine J_goto 51 dJ15_hashCode_29 (by decide) ?_
    exact J_iret rfl dJ15_hashCode_51 (retI h)
  · rw [if_neg c2] at h
    rcases Classical.em (v1 = (2 : Int32)) with c3 | c3
    · rw [if_pos c3] at h
      refine J_lsw 32 dJ15_hashCode_2 (by decide) (by rw [c3] <;> decide) (by decide) ?_
      refine J_aload_n (i := 0) 0 33 dJ15_hashCode_32 rfl rfl rfl ?_
      refine J_ic 34 dJ15_hashCode_33 rfl (0 : Int32) kic_0 ?_
      obtain ⟨q4, hq4, h⟩ := some_of_bind h
      refine J_cSi 37 dJ15_hashCode_34 rfl ykJ15_getChar (Or.inl q959) q960 (Nat.le_of_ble_eq_true rfl) cs_nil (by decide) [va_rf l0, .int (0 : Int32)] rfl rfl (sJ15_getChar hγ l0 (0 : Int32) σ q4 hq4) ?_
      refine J_goto 51 dJ15_hashCode_37 (by decide) ?_
      exact J_iret rfl dJ15_hashCode_51 (retI h)
    · rw [if_neg c3] at h
      refine J_lsw (off := 38) 40 dJ15_hashCode_2 (by decide) ((lv_osw c2 (by decide)).trans ((lv_osw c3 (by decide)).trans rfl)) (by decide) ?_
      refine J_aload_n (i := 0) 0 41 dJ15_hashCode_40 rfl rfl rfl ?_
      refine J_ic 42 dJ15_hashCode_41 rfl (0 : Int32) kic_0 ?_
      refine J_aload_n (i := 0) 0 43 dJ15_hashCode_42 rfl rfl rfl ?_
      obtain ⟨v5, hv5, h⟩ := some_of_bind h
      refine J_alen 44 dJ15_hashCode_43 rfl hv5 ?_
      refine J_ic 45 dJ15_hashCode_44 rfl (1 : Int32) kic_1 ?_
      refine J_ishr 46 dJ15_hashCode_45 rfl ?_
      refine J_ic 47 dJ15_hashCode_46 rfl (0 : Int32) kic_0 ?_
      refine J_ic 48 dJ15_hashCode_47 rfl (5 : Int32) kic_5 ?_
      obtain ⟨q6, hq6, h⟩ := some_of_bind h
      refine J_cSi 51 dJ15_hashCode_48 rfl ykJ16_vectorizedHashCode (Or.inl q1027) q987 (Nat.le_of_ble_eq_true rfl) cs_nil (by decide) [va_rf l0, .int (0 : Int32), .int (v5 >>> ((1 : Int32) &&& 31)), .int (0 : Int32), .int (5 : Int32)] rfl rfl (sJ16_vectorizedHashCode hγ l0 (0 : Int32) (v5 >>> ((1 : Int32) &&& 31)) (0 : Int32) (5 : Int32) σ q6 hq6) ?_
      exact J_iret rfl dJ15_hashCode_51 (retI h)
abbrev mJ12_hashCode : MP := (cJ12_hashCode, "java/lang/String", 2, (Option.some FieldType.int), 4, "hashCode", [])
theorem ykJ12_hashCode : YK yJ12_hashCode mJ12_hashCode 0 := ⟨q978, q148, ⟨by decide, by decide⟩, by decide +kernel, Nat.le_of_ble_eq_true rfl, by decide, rfl, rfl⟩
theorem pk_s_406 {nm9 : String} : POK "java/lang/String" nm9 19 [34] 2 .int := POK.one (by decide) rfl (Nat.le_of_ble_eq_true rfl) (Or.inl ⟨_, q968, Or.inl rfl⟩) rfl (by decide +kernel) (Or.inl rfl)
theorem pk_s_407 {nm9 : String} : POK "java/lang/String" nm9 23 [34] 3 .boolean := POK.one (by decide) rfl (Nat.le_of_ble_eq_true rfl) (Or.inl ⟨_, q969, Or.inl rfl⟩) rfl (by decide +kernel) (Or.inl rfl)
theorem fk_s_408 : FOK "java/lang/String" 19 [34] 2 isI := FOK.one (by decide) rfl (Nat.le_of_ble_eq_true rfl) (Or.inl ⟨_, q968, Or.inl rfl⟩) rfl
theorem fk_s_409 : FOK "java/lang/String" 23 [34] 3 isI := FOK.one (by decide) rfl (Nat.le_of_ble_eq_true rfl) (Or.inl ⟨_, q969, Or.inl rfl⟩) rfl
def J12_hashCode_c40  (l0 : Option Nat) (s0 : Int32) (σ : Hp) : Option (Int32 × Hp) :=
  if s0 = 0 then
    (pZ σ l0 [34] 3 (1 : Int32)).bind fun σ3 =>
    some (s0, σ3)
  else
    (pI σ l0 [34] 2 s0).bind fun σ2 =>
    some (s0, σ2)
set_option maxHeartbeats 4000000 in
theorem jJ12_hashCode_c40 {γ : GP} {σ0 : Hp} {q : (Int32 × Hp)} (hγ : GOK γ) (l0 : Option Nat)  (s0 : Int32) (σ : Hp) (h : J12_hashCode_c40 l0 s0 σ = some q) : J γ mJ12_hashCode (σ0, .inr (some (.int q.1)), q.2) σ 40 [(0, 1, va_rf l0)] [.int s0] := by
  unfold J12_hashCode_c40 at h
  refine J_istore_n (i := 1) 41 [(1, 1, .int s0), (0, 1, va_rf l0)] dJ12_hashCode_40 rfl rfl (Nat.le_of_ble_eq_true rfl) rfl ?_
  refine J_iload_n (i := 1) 0 42 dJ12_hashCode_41 rfl rfl rfl ?_
  refine J_if_ne 53 45 dJ12_hashCode_42 (by decide) rfl (fun c1 => ?_) (fun c1 => ?_)
  · rw [if_neg c1] at h
    refine J_aload_n (i := 0) 1 54 dJ12_hashCode_53 rfl rfl rfl ?_
    refine J_iload_n (i := 1) 0 55 dJ12_hashCode_54 rfl rfl rfl ?_
    obtain ⟨σ2, hσ2, h⟩ := some_of_bind h
    refine J_pI 58 dJ12_hashCode_55 rfl pk_s_406 hσ2 ?_
    refine J_iload_n (i := 1) 0 59 dJ12_hashCode_58 rfl rfl rfl ?_
    exact J_iret rfl dJ12_hashCode_59 (retI h)
  · rw [if_pos c1] at h
    refine J_aload_n (i := 0) 1 46 dJ12_hashCode_45 rfl rfl rfl ?_
    refine J_ic 47 dJ12_hashCode_46 rfl (1 : Int32) kic_1 ?_
    obtain ⟨σ3, hσ3, h⟩ := some_of_bind h
    refine J_pZ 50 dJ12_hashCode_47 rfl pk_s_407 hσ3 ?_
    refine J_goto 58 dJ12_hashCode_50 (by decide) ?_
    refine J_iload_n (i := 1) 0 59 dJ12_hashCode_58 rfl rfl rfl ?_
    exact J_iret rfl dJ12_hashCode_59 (retI h)
def J12_hashCode (l0 : Option Nat) (σ : Hp) : Option (Int32 × Hp) :=
  (gI σ l0 [34] 2).bind fun v1 =>
  if v1 = 0 then
    (gI σ l0 [34] 3).bind fun v3 =>
    if v3 = 0 then
      (cT σ l0 34).bind fun b6 =>
      (J12_isLatin1 l0  σ).bind fun q5 =>
      if q5.1 = 0 then
        (gR q5.2 l0 [34] 0).bind fun v8 =>
        (J15_hashCode v8 q5.2).bind fun q9 =>
        J12_hashCode_c40  l0 q9.1 q9.2
      else
        (gR q5.2 l0 [34] 0).bind fun v10 =>
        (J17_hashCode v10 q5.2).bind fun q11 =>
        J12_hashCode_c40  l0 q11.1 q11.2
    else
      some (v1, σ)
  else
    some (v1, σ)
set_option maxHeartbeats 4000000 in
theorem sJ12_hashCode {γ : GP} (hγ : GOK γ) (l0 : Option Nat) (σ : Hp) (q : (Int32 × Hp)) (h : J12_hashCode l0 σ = some q) : Rn γ mJ12_hashCode yJ12_hashCode [va_rf l0] (σ, .inr (some (.int q.1)), q.2) := by
  refine J_m hγ ykJ12_hashCode rfl [(1, va_rf l0)] (cats_r cats_nil) (Nat.le_of_ble_eq_true rfl) ?_
  show J γ mJ12_hashCode _ σ 0 [(0, 1, va_rf l0)] []
  unfold J12_hashCode at h
  refine J_aload_n (i := 0) 0 1 dJ12_hashCode_0 rfl rfl rfl ?_
  obtain ⟨v1, hv1, h⟩ := some_of_bind h
  refine J_gI 4 dJ12_hashCode_1 rfl fk_s_408 hv1 ?_
  refine J_istore_n (i := 1) 5 [(1, 1, .int v1), (0, 1, va_rf l0)] dJ12_hashCode_4 rfl rfl (Nat.le_of_ble_eq_true rfl) rfl ?_
  refine J_iload_n (i := 1) 0 6 dJ12_hashCode_5 rfl rfl rfl ?_
  refine J_if_ne 58 9 dJ12_hashCode_6 (by decide) rfl (fun c2 => ?_) (fun c2 => ?_)
  · rw [if_neg c2] at h
    refine J_iload_n (i := 1) 0 59 dJ12_hashCode_58 rfl rfl rfl ?_
    exact J_iret rfl dJ12_hashCode_59 (retI h)
  · rw [if_pos c2] at h
    refine J_aload_n (i := 0) 1 10 dJ12_hashCode_9 rfl rfl rfl ?_
    obtain ⟨v3, hv3, h⟩ := some_of_bind h
    refine J_gI 13 dJ12_hashCode_10 rfl fk_s_409 hv3 ?_
    refine J_if_ne 58 16 dJ12_hashCode_13 (by decide) rfl (fun c4 => ?_) (fun c4 => ?_)
    · rw [if_neg c4] at h
      refine J_iload_n (i := 1) 0 59 dJ12_hashCode_58 rfl rfl rfl ?_
      exact J_iret rfl dJ12_hashCode_59 (retI h)
    · rw [if_pos c4] at h
      refine J_aload_n (i := 0) 1 17 dJ12_hashCode_16 rfl rfl rfl ?_
      obtain ⟨b6, hb6, h⟩ := some_of_bind h
      obtain ⟨q5, hq5, h⟩ := some_of_bind h
      refine J_cVi 20 dJ12_hashCode_17 rfl ykJ12_isLatin1 (Or.inl q979) q980 q981 (Nat.le_of_ble_eq_true rfl) cs_nil (by decide) [] hb6 (by decide) rfl rfl rfl (sJ12_isLatin1 hγ l0  σ q5 hq5) ?_
      refine J_if_eq 33 23 dJ12_hashCode_20 (by decide) rfl (fun c7 => ?_) (fun c7 => ?_)
      · rw [if_pos c7] at h
        refine J_aload_n (i := 0) 1 34 dJ12_hashCode_33 rfl rfl rfl ?_
        obtain ⟨v8, hv8, h⟩ := some_of_bind h
        refine J_gR 37 dJ12_hashCode_34 rfl fk_r_315 hv8 ?_
        obtain ⟨q9, hq9, h⟩ := some_of_bind h
        refine J_cSi 40 dJ12_hashCode_37 rfl ykJ15_hashCode (Or.inl q1024) q1025 (Nat.le_of_ble_eq_true rfl) cs_nil (by decide) [va_rf v8] rfl rfl (sJ15_hashCode hγ v8 q5.2 q9 hq9) ?_
        refine J.pick [1] rfl ?_
        exact jJ12_hashCode_c40 hγ l0 q9.1 q9.2 h
      · rw [if_neg c7] at h
        refine J_aload_n (i := 0) 1 24 dJ12_hashCode_23 rfl rfl rfl ?_
        obtain ⟨v10, hv10, h⟩ := some_of_bind h
        refine J_gR 27 dJ12_hashCode_24 rfl fk_r_315 hv10 ?_
        obtain ⟨q11, hq11, h⟩ := some_of_bind h
        refine J_cSi 30 dJ12_hashCode_27 rfl ykJ17_hashCode (Or.inl q983) q984 (Nat.le_of_ble_eq_true rfl) cs_nil (by decide) [va_rf v10] rfl rfl (sJ17_hashCode hγ v10 q5.2 q11 hq11) ?_
        refine J_goto 40 dJ12_hashCode_30 (by decide) ?_
        refine J.pick [1] rfl ?_
        exact jJ12_hashCode_c40 hγ l0 q11.1 q11.2 h
abbrev mJ17_equals : MP := (cJ17_equals, "java/lang/StringLatin1", 3, (Option.some FieldType.boolean), 0, "equals", [])
theorem ykJ17_equals : YK yJ17_equals mJ17_equals 2 := ⟨q1036, q154, ⟨by decide, by decide⟩, by decide +kernel, Nat.le_of_ble_eq_true rfl, by decide, rfl, rfl⟩
def J17_equals_c9 (l0 : Option Nat) (l1 : Option Nat)  : Nat → Int32 → Hp → Option (Int32 × Hp)
  | 0, _, _ => none
  | n + 1, l2, σ =>
    (aN σ l0).bind fun v1 =>
    if v1 ≤ l2 then
      some ((1 : Int32), σ)
    else
      (aI 2 σ l0 l2).bind fun v4 =>
      (aI 2 σ l1 l2).bind fun v5 =>
      if v4 = v5 then
        J17_equals_c9 l0 l1 n (l2 + (1 : Int32)) σ
      else
        some ((0 : Int32), σ)
set_option maxHeartbeats 4000000 in
theorem jJ17_equals_c9 {γ : GP} {σ0 : Hp} {q : (Int32 × Hp)} (hγ : GOK γ) (l0 : Option Nat) (l1 : Option Nat)  : ∀ (n : Nat) (l2 : Int32) (σ : Hp), J17_equals_c9 l0 l1 n l2 σ = some q → J γ mJ17_equals (σ0, .inr (some (.int q.1)), q.2) σ 9 [(0, 1, va_rf l0), (1, 1, va_rf l1), (2, 1, .int l2)] [] := by
  intro n
  induction n with
  | zero => intro l2 σ h; exact nomatch (show none = some q from h)
  | succ n ih =>
    intro l2 σ h
    rw [J17_equals_c9] at h
    refine J_iload_n (i := 2) 2 10 dJ17_equals_9 rfl rfl rfl ?_
    refine J_aload_n (i := 0) 0 11 dJ17_equals_10 rfl rfl rfl ?_
    obtain ⟨v1, hv1, h⟩ := some_of_bind h
    refine J_alen 12 dJ17_equals_11 rfl hv1 ?_
    refine J_icmp_ge 32 15 dJ17_equals_12 (by decide) rfl (fun c2 => ?_) (fun c2 => ?_)
    · rw [if_pos c2] at h
      refine J_ic 33 dJ17_equals_32 rfl (1 : Int32) kic_1 ?_
      exact J_zret rfl (by decide) dJ17_equals_33 (retI h)
    · rw [if_neg c2] at h
      refine J_aload_n (i := 0) 0 16 dJ17_equals_15 rfl rfl rfl ?_
      refine J_iload_n (i := 2) 2 17 dJ17_equals_16 rfl rfl rfl ?_
      obtain ⟨v4, hv4, h⟩ := some_of_bind h
      refine J_bald 18 dJ17_equals_17 rfl hv4 ?_
      refine J_aload_n (i := 1) 1 19 dJ17_equals_18 rfl rfl rfl ?_
      refine J_iload_n (i := 2) 2 20 dJ17_equals_19 rfl rfl rfl ?_
      obtain ⟨v5, hv5, h⟩ := some_of_bind h
      refine J_bald 21 dJ17_equals_20 rfl hv5 ?_
      refine J_icmp_eq 26 24 dJ17_equals_21 (by decide) rfl (fun c6 => ?_) (fun c6 => ?_)
      · rw [if_pos c6] at h
        refine J_iinc (i := 2) (v := l2 + (1 : Int32)) 2 29 [(2, 1, .int (l2 + (1 : Int32))), (0, 1, va_rf l0), (1, 1, va_rf l1)] dJ17_equals_26 rfl rfl (Nat.le_of_ble_eq_true rfl) (by rw [kic_1]) rfl ?_
        refine J_goto 9 dJ17_equals_29 (by decide) ?_
        refine J.pick [1, 2, 0] rfl ?_
        exact ih (l2 + (1 : Int32)) σ h
      · rw [if_neg c6] at h
        refine J_ic 25 dJ17_equals_24 rfl (0 : Int32) kic_0 ?_
        exact J_zret rfl (by decide) dJ17_equals_25 (retI h)
def J17_equals (l0 : Option Nat) (l1 : Option Nat) (σ : Hp) : Option (Int32 × Hp) :=
  (aN σ l0).bind fun v1 =>
  (aN σ l1).bind fun v2 =>
  if v1 = v2 then
    J17_equals_c9 l0 l1  FUEL (0 : Int32) σ
  else
    some ((0 : Int32), σ)
set_option maxHeartbeats 4000000 in
theorem sJ17_equals {γ : GP} (hγ : GOK γ) (l0 : Option Nat) (l1 : Option Nat) (σ : Hp) (q : (Int32 × Hp)) (h : J17_equals l0 l1 σ = some q) : Rn γ mJ17_equals yJ17_equals [va_rf l0, va_rf l1] (σ, .inr (some (.int q.1)), q.2) := by
  refine J_m hγ ykJ17_equals rfl [(1, va_rf l0), (1, va_rf l1)] (cats_r (cats_r cats_nil)) (Nat.le_of_ble_eq_true rfl) ?_
  show J γ mJ17_equals _ σ 0 [(0, 1, va_rf l0), (1, 1, va_rf l1)] []
  unfold J17_equals at h
  refine J_aload_n (i := 0) 0 1 dJ17_equals_0 rfl rfl rfl ?_
  obtain ⟨v1, hv1, h⟩ := some_of_bind h
  refine J_alen 2 dJ17_equals_1 rfl hv1 ?_
  refine J_aload_n (i := 1) 1 3 dJ17_equals_2 rfl rfl rfl ?_
  obtain ⟨v2, hv2, h⟩ := some_of_bind h
  refine J_alen 4 dJ17_equals_3 rfl hv2 ?_
  refine J_icmp_ne 34 7 dJ17_equals_4 (by decide) rfl (fun c3 => ?_) (fun c3 => ?_)
  · rw [if_neg c3] at h
    refine J_ic 35 dJ17_equals_34 rfl (0 : Int32) kic_0 ?_
    exact J_zret rfl (by decide) dJ17_equals_35 (retI h)
  · rw [if_pos c3] at h
    refine J_ic 8 dJ17_equals_7 rfl (0 : Int32) kic_0 ?_
    refine J_istore_n (i := 2) 9 [(2, 1, .int (0 : Int32)), (0, 1, va_rf l0), (1, 1, va_rf l1)] dJ17_equals_8 rfl rfl (Nat.le_of_ble_eq_true rfl) rfl ?_
    refine J.pick [1, 2, 0] rfl ?_
    refine jJ17_equals_c9 hγ l0 l1  FUEL (0 : Int32) σ h
abbrev mJ12_equals : MP := (cJ12_equals, "java/lang/String", 3, (Option.some FieldType.boolean), 1, "equals", [])
theorem ykJ12_equals : YK yJ12_equals mJ12_equals 1 := ⟨q1032, q148, ⟨by decide, by decide⟩, by decide +kernel, Nat.le_of_ble_eq_true rfl, by decide, rfl, rfl⟩
def J12_equals_c36  (l0 : Option Nat) (l2 : Option Nat)  (σ : Hp) : Option (Int32 × Hp) :=
  (gR σ l0 [34] 0).bind fun v1 =>
  (gR σ l2 [34] 0).bind fun v2 =>
  (J17_equals v1 v2 σ).bind fun q3 =>
  if q3.1 = 0 then
    some ((0 : Int32), q3.2)
  else
    some ((1 : Int32), q3.2)
set_option maxHeartbeats 4000000 in
theorem jJ12_equals_c36 {γ : GP} {σ0 : Hp} {q : (Int32 × Hp)} (hγ : GOK γ) (l0 : Option Nat) (l2 : Option Nat)   (σ : Hp) (h : J12_equals_c36 l0 l2 σ = some q) : J γ mJ12_equals (σ0, .inr (some (.int q.1)), q.2) σ 36 [(0, 1, va_rf l0), (2, 1, va_rf l2)] [] := by
  unfold J12_equals_c36 at h
  refine J_aload_n (i := 0) 0 37 dJ12_equals_36 rfl rfl rfl ?_
  obtain ⟨v1, hv1, h⟩ := some_of_bind h
  refine J_gR 40 dJ12_equals_37 rfl fk_r_315 hv1 ?_
  refine J_aload_n (i := 2) 1 41 dJ12_equals_40 rfl rfl rfl ?_
  obtain ⟨v2, hv2, h⟩ := some_of_bind h
  refine J_gR 44 dJ12_equals_41 rfl fk_r_315 hv2 ?_
  obtain ⟨q3, hq3, h⟩ := some_of_bind h
  refine J_cSi 47 dJ12_equals_44 rfl ykJ17_equals (Or.inl q1034) q1035 (Nat.le_of_ble_eq_true rfl) cs_nil (by decide) [va_rf v1, va_rf v2] rfl rfl (sJ17_equals hγ v1 v2 σ q3 hq3) ?_
  refine J_if_eq 54 50 dJ12_equals_47 (by decide) rfl (fun c4 => ?_) (fun c4 => ?_)
  · rw [if_pos c4] at h
    refine J_ic 55 dJ12_equals_54 rfl (0 : Int32) kic_0 ?_
    exact J_zret rfl (by decide) dJ12_equals_55 (retI h)
  · rw [if_neg c4] at h
    refine J_ic 51 dJ12_equals_50 rfl (1 : Int32) kic_1 ?_
    refine J_goto 55 dJ12_equals_51 (by decide) ?_
    exact J_zret rfl (by decide) dJ12_equals_55 (retI h)
def J12_equals (l0 : Option Nat) (l1 : Option Nat) (σ : Hp) : Option (Int32 × Hp) :=
  if l0 = l1 then
    some ((1 : Int32), σ)
  else
    (cT σ l1 34).bind fun b2 =>
    if (1 : Int32) = 0 then
      some ((0 : Int32), σ)
    else
      (cT σ l1 34).bind fun b5 =>
      if (1 : Int32) = 0 then
        J12_equals_c36  l0 l1  σ
      else
        (gI σ l0 [34] 1).bind fun v7 =>
        (gI σ l1 [34] 1).bind fun v8 =>
        if v7 = v8 then
          J12_equals_c36  l0 l1  σ
        else
          some ((0 : Int32), σ)
set_option maxHeartbeats 4000000 in
theorem sJ12_equals {γ : GP} (hγ : GOK γ) (l0 : Option Nat) (l1 : Option Nat) (σ : Hp) (q : (Int32 × Hp)) (h : J12_equals l0 l1 σ = some q) : Rn γ mJ12_equals yJ12_equals [va_rf l0, va_rf l1] (σ, .inr (some (.int q.1)), q.2) := by
  refine J_m hγ ykJ12_equals rfl [(1, va_rf l0), (1, va_rf l1)] (cats_r (cats_r cats_nil)) (Nat.le_of_ble_eq_true rfl) ?_
  show J γ mJ12_equals _ σ 0 [(0, 1, va_rf l0), (1, 1, va_rf l1)] []
  unfold J12_equals at h
  refine J_aload_n (i := 0) 0 1 dJ12_equals_0 rfl rfl rfl ?_
  refine J_aload_n (i := 1) 1 2 dJ12_equals_1 rfl rfl rfl ?_
  refine J_acmp_ne 7 5 dJ12_equals_2 (by decide) rfl (fun c1 => ?_) (fun c1 => ?_)
  · rw [if_neg c1] at h
    refine J_aload_n (i := 1) 1 8 dJ12_equals_7 rfl rfl rfl ?_
    obtain ⟨b2, hb2, h⟩ := some_of_bind h
    refine J_inst hb2 (by decide) rfl q1033 11 dJ12_equals_8 rfl ?_
    refine J_if_eq 54 14 dJ12_equals_11 (by decide) rfl (fun c3 => ?_) (fun c3 => ?_)
    · rw [if_pos c3] at h
      refine J_ic 55 dJ12_equals_54 rfl (0 : Int32) kic_0 ?_
      exact J_zret rfl (by decide) dJ12_equals_55 (retI h)
    · rw [if_neg c3] at h
      refine J_aload_n (i := 1) 1 15 dJ12_equals_14 rfl rfl rfl ?_
      obtain ⟨b5, hb5, h⟩ := some_of_bind h
      refine J_cast hb5 (by decide) rfl q1033 18 dJ12_equals_15 rfl ?_
      refine J_astore_n (i := 2) 19 [(2, 1, va_rf l1), (0, 1, va_rf l0), (1, 1, va_rf l1)] dJ12_equals_18 rfl rfl (Nat.le_of_ble_eq_true rfl) rfl ?_
      refine J_getsI (x := 1) (by decide) q952 22 dJ12_equals_19 rfl ?_
      refine J_if_eq 36 25 dJ12_equals_22 (by decide) rfl (fun c6 => ?_) (fun c6 => ?_)
      · rw [if_pos c6] at h
        refine J.pick [1, 0] rfl ?_
        exact jJ12_equals_c36 hγ l0 l1  σ h
      · rw [if_neg c6] at h
        refine J_aload_n (i := 0) 1 26 dJ12_equals_25 rfl rfl rfl ?_
        obtain ⟨v7, hv7, h⟩ := some_of_bind h
        refine J_gI 29 dJ12_equals_26 rfl fk_r_314 hv7 ?_
        refine J_aload_n (i := 2) 0 30 dJ12_equals_29 rfl rfl rfl ?_
        obtain ⟨v8, hv8, h⟩ := some_of_bind h
        refine J_gI 33 dJ12_equals_30 rfl fk_r_314 hv8 ?_
        refine J_icmp_ne 54 36 dJ12_equals_33 (by decide) rfl (fun c9 => ?_) (fun c9 => ?_)
        · rw [if_neg c9] at h
          refine J_ic 55 dJ12_equals_54 rfl (0 : Int32) kic_0 ?_
          exact J_zret rfl (by decide) dJ12_equals_55 (retI h)
        · rw [if_pos c9] at h
          refine J.pick [1, 0] rfl ?_
          exact jJ12_equals_c36 hγ l0 l1  σ h
  · rw [if_pos c1] at h
    refine J_ic 6 dJ12_equals_5 rfl (1 : Int32) kic_1 ?_
    exact J_zret rfl (by decide) dJ12_equals_6 (retI h)
abbrev mX8_numberOf : MP := (cX8_numberOf, "MissCurves$Leaving", 3, (Option.some FieldType.int), 9, "numberOf", [])
theorem ykX8_numberOf : YK yX8_numberOf mX8_numberOf 1 := ⟨q904, q155, ⟨by decide, by decide⟩, by decide +kernel, Nat.le_of_ble_eq_true rfl, by decide, rfl, rfl⟩
def X8_numberOf_c131  (l2 : Int32)  (σ : Hp) : Option (Int32 × Hp) :=
  if l2 = (0 : Int32) then
    some ((0 : Int32), σ)
  else
  if l2 = (1 : Int32) then
    some ((1 : Int32), σ)
  else
  if l2 = (2 : Int32) then
    some ((2 : Int32), σ)
  else
  if l2 = (3 : Int32) then
    some ((3 : Int32), σ)
  else
  if l2 = (4 : Int32) then
    some ((4 : Int32), σ)
  else
  some ((-1 : Int32), σ)
set_option maxHeartbeats 4000000 in
theorem jX8_numberOf_c131 {γ : GP} {σ0 : Hp} {q : (Int32 × Hp)} (hγ : GOK γ) (l2 : Int32)   (σ : Hp) (h : X8_numberOf_c131 l2 σ = some q) : J γ mX8_numberOf (σ0, .inr (some (.int q.1)), q.2) σ 131 [(2, 1, .int l2)] [] := by
  unfold X8_numberOf_c131 at h
  refine J_iload_n (i := 2) 0 132 dX8_numberOf_131 rfl rfl rfl ?_
  rcases Classical.em (l2 = (0 : Int32)) with c1 | c1
  · rw [if_pos c1] at h
    refine J_tsC c1 168 dX8_numberOf_132 (by decide) (by decide) rfl (by decide) ?_
    refine J_ic 169 dX8_numberOf_168 rfl (0 : Int32) kic_0 ?_
    exact J_iret rfl dX8_numberOf_169 (retI h)
  · rw [if_neg c1] at h
    rcases Classical.em (l2 = (1 : Int32)) with c2 | c2
    · rw [if_pos c2] at h
      refine J_tsC c2 170 dX8_numberOf_132 (by decide) (by decide) rfl (by decide) ?_
      refine J_ic 171 dX8_numberOf_170 rfl (1 : Int32) kic_1 ?_
      exact J_iret rfl dX8_numberOf_171 (retI h)
    · rw [if_neg c2] at h
      rcases Classical.em (l2 = (2 : Int32)) with c3 | c3
      · rw [if_pos c3] at h
        refine J_tsC c3 172 dX8_numberOf_132 (by decide) (by decide) rfl (by decide) ?_
        refine J_ic 173 dX8_numberOf_172 rfl (2 : Int32) kic_2 ?_
        exact J_iret rfl dX8_numberOf_173 (retI h)
      · rw [if_neg c3] at h
        rcases Classical.em (l2 = (3 : Int32)) with c4 | c4
        · rw [if_pos c4] at h
          refine J_tsC c4 174 dX8_numberOf_132 (by decide) (by decide) rfl (by decide) ?_
          refine J_ic 175 dX8_numberOf_174 rfl (3 : Int32) kic_3 ?_
          exact J_iret rfl dX8_numberOf_175 (retI h)
        · rw [if_neg c4] at h
          rcases Classical.em (l2 = (4 : Int32)) with c5 | c5
          · rw [if_pos c5] at h
            refine J_tsC c5 176 dX8_numberOf_132 (by decide) (by decide) rfl (by decide) ?_
            refine J_ic 177 dX8_numberOf_176 rfl (4 : Int32) kic_4 ?_
            exact J_iret rfl dX8_numberOf_177 (retI h)
          · rw [if_neg c5] at h
            refine J_tsOut 178 dX8_numberOf_132 (by have a0 := lv_neT c1 (a := 0) (by decide); have a1 := lv_neT c2 (a := 1) (by decide); have a2 := lv_neT c3 (a := 2) (by decide); have a3 := lv_neT c4 (a := 3) (by decide); have a4 := lv_neT c5 (a := 4) (by decide); omega) (by decide) ?_
            refine J_ic 179 dX8_numberOf_178 rfl (-1 : Int32) kic_m1 ?_
            exact J_iret rfl dX8_numberOf_179 (retI h)
def X8_numberOf (l0 : Option Nat) (σ : Hp) : Option (Int32 × Hp) :=
  (vText l0  σ).bind fun q1 =>
  (cT q1.2 q1.1 34).bind fun b3 =>
  (J12_hashCode q1.1  q1.2).bind fun q2 =>
  if q2.1 = (107067 : Int32) then
    (cT q2.2 q1.1 34).bind fun b6 =>
    (J12_equals q1.1 (hst q2.2 131) q2.2).bind fun q5 =>
    if q5.1 = 0 then
      X8_numberOf_c131  (-1 : Int32)  q5.2
    else
      X8_numberOf_c131  (3 : Int32)  q5.2
  else
  if q2.1 = (107439 : Int32) then
    (cT q2.2 q1.1 34).bind fun b10 =>
    (J12_equals q1.1 (hst q2.2 133) q2.2).bind fun q9 =>
    if q9.1 = 0 then
      X8_numberOf_c131  (-1 : Int32)  q9.2
    else
      X8_numberOf_c131  (0 : Int32)  q9.2
  else
  if q2.1 = (108114 : Int32) then
    (cT q2.2 q1.1 34).bind fun b14 =>
    (J12_equals q1.1 (hst q2.2 134) q2.2).bind fun q13 =>
    if q13.1 = 0 then
      X8_numberOf_c131  (-1 : Int32)  q13.2
    else
      X8_numberOf_c131  (4 : Int32)  q13.2
  else
  if q2.1 = (108400 : Int32) then
    (cT q2.2 q1.1 34).bind fun b18 =>
    (J12_equals q1.1 (hst q2.2 136) q2.2).bind fun q17 =>
    if q17.1 = 0 then
      X8_numberOf_c131  (-1 : Int32)  q17.2
    else
      X8_numberOf_c131  (1 : Int32)  q17.2
  else
  if q2.1 = (3142860 : Int32) then
    (cT q2.2 q1.1 34).bind fun b22 =>
    (J12_equals q1.1 (hst q2.2 127) q2.2).bind fun q21 =>
    if q21.1 = 0 then
      X8_numberOf_c131  (-1 : Int32)  q21.2
    else
      X8_numberOf_c131  (2 : Int32)  q21.2
  else
  X8_numberOf_c131  (-1 : Int32)  q2.2
set_option maxHeartbeats 4000000 in
theorem sX8_numberOf {γ : GP} (hγ : GOK γ) (l0 : Option Nat) (σ : Hp) (q : (Int32 × Hp)) (h : X8_numberOf l0 σ = some q) : Rn γ mX8_numberOf yX8_numberOf [va_rf l0] (σ, .inr (some (.int q.1)), q.2) := by
  refine J_m hγ ykX8_numberOf rfl [(1, va_rf l0)] (cats_r cats_nil) (Nat.le_of_ble_eq_true rfl) ?_
  show J γ mX8_numberOf _ σ 0 [(0, 1, va_rf l0)] []
  unfold X8_numberOf at h
  refine J_aload_n (i := 0) 0 1 dX8_numberOf_0 rfl rfl rfl ?_
  obtain ⟨q1, hq1, h⟩ := some_of_bind h
  refine J_cGr (na := 0) 6 dX8_numberOf_1 rfl q906 ⟨by decide, by decide, by decide +kernel⟩ (show (8) + 1 ≤ 9 by omega) cs_nil (by decide) [] rfl rfl (svText hγ l0  σ q1 hq1) ?_
  refine J_astore_n (i := 1) 7 [(1, 1, va_rf q1.1), (0, 1, va_rf l0)] dX8_numberOf_6 rfl rfl (Nat.le_of_ble_eq_true rfl) rfl ?_
  refine J_ic 8 dX8_numberOf_7 rfl (-1 : Int32) kic_m1 ?_
  refine J_istore_n (i := 2) 9 [(2, 1, .int (-1 : Int32)), (1, 1, va_rf q1.1), (0, 1, va_rf l0)] dX8_numberOf_8 rfl rfl (Nat.le_of_ble_eq_true rfl) rfl ?_
  refine J_aload_n (i := 1) 1 10 dX8_numberOf_9 rfl rfl rfl ?_
  obtain ⟨b3, hb3, h⟩ := some_of_bind h
  obtain ⟨q2, hq2, h⟩ := some_of_bind h
  refine J_cVi 13 dX8_numberOf_10 rfl ykJ12_hashCode (Or.inl q975) q976 q977 (Nat.le_of_ble_eq_true rfl) cs_nil (by decide) [] hb3 (by decide) rfl rfl rfl (sJ12_hashCode hγ q1.1  q1.2 q2 hq2) ?_
  rcases Classical.em (q2.1 = (107067 : Int32)) with c4 | c4
  · rw [if_pos c4] at h
    refine J_lsw 106 dX8_numberOf_13 (by decide) (by rw [c4] <;> decide) (by decide) ?_
    refine J_aload_n (i := 1) 1 107 dX8_numberOf_106 rfl rfl rfl ?_
    refine J_ldcS (k := 131) (tx := "lfu") (show (131, "MissCurves$Leaving", 45, "lfu") ∈ strl by decide) 109 dX8_numberOf_107 rfl ?_
    obtain ⟨b6, hb6, h⟩ := some_of_bind h
    obtain ⟨q5, hq5, h⟩ := some_of_bind h
    refine J_cVi 112 dX8_numberOf_109 rfl ykJ12_equals (Or.inl q1029) q1030 q1031 (Nat.le_of_ble_eq_true rfl) cs_nil (by decide) [va_rf (hst q2.2 131)] hb6 (by decide) rfl rfl rfl (sJ12_equals hγ q1.1 (hst q2.2 131) q2.2 q5 hq5) ?_
    refine J_if_eq 131 115 dX8_numberOf_112 (by decide) rfl (fun c7 => ?_) (fun c7 => ?_)
    · rw [if_pos c7] at h
      refine J.pick [0] rfl ?_
      exact jX8_numberOf_c131 hγ (-1 : Int32)  q5.2 h
    · rw [if_neg c7] at h
      refine J_ic 116 dX8_numberOf_115 rfl (3 : Int32) kic_3 ?_
      refine J_istore_n (i := 2) 117 [(2, 1, .int (3 : Int32)), (1, 1, va_rf q1.1), (0, 1, va_rf l0)] dX8_numberOf_116 rfl rfl (Nat.le_of_ble_eq_true rfl) rfl ?_
      refine J_goto 131 dX8_numberOf_117 (by decide) ?_
      refine J.pick [0] rfl ?_
      exact jX8_numberOf_c131 hγ (3 : Int32)  q5.2 h
  · rw [if_neg c4] at h
    rcases Classical.em (q2.1 = (107439 : Int32)) with c8 | c8
    · rw [if_pos c8] at h
      refine J_lsw 64 dX8_numberOf_13 (by decide) (by rw [c8] <;> decide) (by decide) ?_
      refine J_aload_n (i := 1) 1 65 dX8_numberOf_64 rfl rfl rfl ?_
      refine J_ldcS (k := 133) (tx := "lru") (show (133, "MissCurves$Leaving", 35, "lru") ∈ strl by decide) 67 dX8_numberOf_65 rfl ?_
      obtain ⟨b10, hb10, h⟩ := some_of_bind h
      obtain ⟨q9, hq9, h⟩ := some_of_bind h
      refine J_cVi 70 dX8_numberOf_67 rfl ykJ12_equals (Or.inl q1029) q1030 q1031 (Nat.le_of_ble_eq_true rfl) cs_nil (by decide) [va_rf (hst q2.2 133)] hb10 (by decide) rfl rfl rfl (sJ12_equals hγ q1.1 (hst q2.2 133) q2.2 q9 hq9) ?_
      refine J_if_eq 131 73 dX8_numberOf_70 (by decide) rfl (fun c11 => ?_) (fun c11 => ?_)
      · rw [if_pos c11] at h
        refine J.pick [0] rfl ?_
        exact jX8_numberOf_c131 hγ (-1 : Int32)  q9.2 h
      · rw [if_neg c11] at h
        refine J_ic 74 dX8_numberOf_73 rfl (0 : Int32) kic_0 ?_
        refine J_istore_n (i := 2) 75 [(2, 1, .int (0 : Int32)), (1, 1, va_rf q1.1), (0, 1, va_rf l0)] dX8_numberOf_74 rfl rfl (Nat.le_of_ble_eq_true rfl) rfl ?_
        refine J_goto 131 dX8_numberOf_75 (by decide) ?_
        refine J.pick [0] rfl ?_
        exact jX8_numberOf_c131 hγ (0 : Int32)  q9.2 h
    · rw [if_neg c8] at h
      rcases Classical.em (q2.1 = (108114 : Int32)) with c12 | c12
      · rw [if_pos c12] at h
        refine J_lsw 120 dX8_numberOf_13 (by decide) (by rw [c12] <;> decide) (by decide) ?_
        refine J_aload_n (i := 1) 1 121 dX8_numberOf_120 rfl rfl rfl ?_
        refine J_ldcS (k := 134) (tx := "min") (show (134, "MissCurves$Leaving", 47, "min") ∈ strl by decide) 123 dX8_numberOf_121 rfl ?_
        obtain ⟨b14, hb14, h⟩ := some_of_bind h
        obtain ⟨q13, hq13, h⟩ := some_of_bind h
        refine J_cVi 126 dX8_numberOf_123 rfl ykJ12_equals (Or.inl q1029) q1030 q1031 (Nat.le_of_ble_eq_true rfl) cs_nil (by decide) [va_rf (hst q2.2 134)] hb14 (by decide) rfl rfl rfl (sJ12_equals hγ q1.1 (hst q2.2 134) q2.2 q13 hq13) ?_
        refine J_if_eq 131 129 dX8_numberOf_126 (by decide) rfl (fun c15 => ?_) (fun c15 => ?_)
        · rw [if_pos c15] at h
          refine J.pick [0] rfl ?_
          exact jX8_numberOf_c131 hγ (-1 : Int32)  q13.2 h
        · rw [if_neg c15] at h
          refine J_ic 130 dX8_numberOf_129 rfl (4 : Int32) kic_4 ?_
          refine J_istore_n (i := 2) 131 [(2, 1, .int (4 : Int32)), (1, 1, va_rf q1.1), (0, 1, va_rf l0)] dX8_numberOf_130 rfl rfl (Nat.le_of_ble_eq_true rfl) rfl ?_
          refine J.pick [0] rfl ?_
          exact jX8_numberOf_c131 hγ (4 : Int32)  q13.2 h
      · rw [if_neg c12] at h
        rcases Classical.em (q2.1 = (108400 : Int32)) with c16 | c16
        · rw [if_pos c16] at h
          refine J_lsw 78 dX8_numberOf_13 (by decide) (by rw [c16] <;> decide) (by decide) ?_
          refine J_aload_n (i := 1) 1 79 dX8_numberOf_78 rfl rfl rfl ?_
          refine J_ldcS (k := 136) (tx := "mru") (show (136, "MissCurves$Leaving", 41, "mru") ∈ strl by decide) 81 dX8_numberOf_79 rfl ?_
          obtain ⟨b18, hb18, h⟩ := some_of_bind h
          obtain ⟨q17, hq17, h⟩ := some_of_bind h
          refine J_cVi 84 dX8_numberOf_81 rfl ykJ12_equals (Or.inl q1029) q1030 q1031 (Nat.le_of_ble_eq_true rfl) cs_nil (by decide) [va_rf (hst q2.2 136)] hb18 (by decide) rfl rfl rfl (sJ12_equals hγ q1.1 (hst q2.2 136) q2.2 q17 hq17) ?_
          refine J_if_eq 131 87 dX8_numberOf_84 (by decide) rfl (fun c19 => ?_) (fun c19 => ?_)
          · rw [if_pos c19] at h
            refine J.pick [0] rfl ?_
            exact jX8_numberOf_c131 hγ (-1 : Int32)  q17.2 h
          · rw [if_neg c19] at h
            refine J_ic 88 dX8_numberOf_87 rfl (1 : Int32) kic_1 ?_
            refine J_istore_n (i := 2) 89 [(2, 1, .int (1 : Int32)), (1, 1, va_rf q1.1), (0, 1, va_rf l0)] dX8_numberOf_88 rfl rfl (Nat.le_of_ble_eq_true rfl) rfl ?_
            refine J_goto 131 dX8_numberOf_89 (by decide) ?_
            refine J.pick [0] rfl ?_
            exact jX8_numberOf_c131 hγ (1 : Int32)  q17.2 h
        · rw [if_neg c16] at h
          rcases Classical.em (q2.1 = (3142860 : Int32)) with c20 | c20
          · rw [if_pos c20] at h
            refine J_lsw 92 dX8_numberOf_13 (by decide) (by rw [c20] <;> decide) (by decide) ?_
            refine J_aload_n (i := 1) 1 93 dX8_numberOf_92 rfl rfl rfl ?_
            refine J_ldcS (k := 127) (tx := "fifo") (show (127, "MissCurves$Leaving", 43, "fifo") ∈ strl by decide) 95 dX8_numberOf_93 rfl ?_
            obtain ⟨b22, hb22, h⟩ := some_of_bind h
            obtain ⟨q21, hq21, h⟩ := some_of_bind h
            refine J_cVi 98 dX8_numberOf_95 rfl ykJ12_equals (Or.inl q1029) q1030 q1031 (Nat.le_of_ble_eq_true rfl) cs_nil (by decide) [va_rf (hst q2.2 127)] hb22 (by decide) rfl rfl rfl (sJ12_equals hγ q1.1 (hst q2.2 127) q2.2 q21 hq21) ?_
            refine J_if_eq 131 101 dX8_numberOf_98 (by decide) rfl (fun c23 => ?_) (fun c23 => ?_)
            · rw [if_pos c23] at h
              refine J.pick [0] rfl ?_
              exact jX8_numberOf_c131 hγ (-1 : Int32)  q21.2 h
            · rw [if_neg c23] at h
              refine J_ic 102 dX8_numberOf_101 rfl (2 : Int32) kic_2 ?_
              refine J_istore_n (i := 2) 103 [(2, 1, .int (2 : Int32)), (1, 1, va_rf q1.1), (0, 1, va_rf l0)] dX8_numberOf_102 rfl rfl (Nat.le_of_ble_eq_true rfl) rfl ?_
              refine J_goto 131 dX8_numberOf_103 (by decide) ?_
              refine J.pick [0] rfl ?_
              exact jX8_numberOf_c131 hγ (2 : Int32)  q21.2 h
          · rw [if_neg c20] at h
            refine J_lsw (off := 118) 131 dX8_numberOf_13 (by decide) ((lv_osw c4 (by decide)).trans ((lv_osw c8 (by decide)).trans ((lv_osw c12 (by decide)).trans ((lv_osw c16 (by decide)).trans ((lv_osw c20 (by decide)).trans rfl))))) (by decide) ?_
            refine J.pick [0] rfl ?_
            exact jX8_numberOf_c131 hγ (-1 : Int32)  q2.2 h
abbrev mX0_readPolicy : MP := (cX0_readPolicy, "MissCurves", 6, (Option.some FieldType.int), 10, "readPolicy", [])
theorem ykX0_readPolicy : YK yX0_readPolicy mX0_readPolicy 0 := ⟨q779, q128, ⟨by decide, by decide⟩, by decide +kernel, Nat.le_of_ble_eq_true rfl, by decide, rfl, rfl⟩
theorem pk_s_410 {nm9 : String} : POK "MissCurves" nm9 75 [0] 11 .int := POK.one (by decide) rfl (Nat.le_of_ble_eq_true rfl) (Or.inl ⟨_, q392, Or.inl rfl⟩) rfl (by decide +kernel) (Or.inl rfl)
def X0_readPolicy_c16 (l0 : Option Nat) (l1 : Int32) (l3 : Option Nat) (k64 : Int32 → Hp → Option (Int32 × Hp)) : Nat → Int32 → Hp → Option (Int32 × Hp)
  | 0, _, _ => none
  | n + 1, l2, σ =>
    (gI σ l0 [0] 15).bind fun v1 =>
    if v1 ≤ l2 then
      k64 l2 σ
    else
      (gR σ l0 [0] 14).bind fun v3 =>
      (aI 2 σ v3 l2).bind fun v4 =>
      if v4 < (97 : Int32) then
        k64 l2 σ
      else
        (gR σ l0 [0] 14).bind fun v6 =>
        (aI 2 σ v6 l2).bind fun v7 =>
        if (122 : Int32) < v7 then
          k64 l2 σ
        else
          (gR σ l0 [0] 14).bind fun v9 =>
          (aI 2 σ v9 l2).bind fun v10 =>
          (cT σ l3 35).bind fun b12 =>
          (J14_append l3 (i2c v10) σ).bind fun q11 =>
          X0_readPolicy_c16 l0 l1 l3 k64 n (l2 + (1 : Int32)) q11.2
set_option maxHeartbeats 4000000 in
theorem jX0_readPolicy_c16 {γ : GP} {σ0 : Hp} {q : (Int32 × Hp)} (hγ : GOK γ) (l0 : Option Nat) (l1 : Int32) (l3 : Option Nat) {k64 : Int32 → Hp → Option (Int32 × Hp)} (hk64 : ∀ (l2 : Int32) (σ : Hp), k64 l2 σ = some q → J γ mX0_readPolicy (σ0, .inr (some (.int q.1)), q.2) σ 64 [(0, 1, va_rf l0), (1, 1, .int l1), (2, 1, .int l2), (3, 1, va_rf l3)] []) : ∀ (n : Nat) (l2 : Int32) (σ : Hp), X0_readPolicy_c16 l0 l1 l3 k64 n l2 σ = some q → J γ mX0_readPolicy (σ0, .inr (some (.int q.1)), q.2) σ 16 [(0, 1, va_rf l0), (1, 1, .int l1), (2, 1, .int l2), (3, 1, va_rf l3)] [] := by
  intro n
  induction n with
  | zero => intro l2 σ h; exact nomatch (show none = some q from h)
  | succ n ih =>
    intro l2 σ h
    rw [X0_readPolicy_c16] at h
    refine J_iload_n (i := 2) 2 17 dX0_readPolicy_16 rfl rfl rfl ?_
    refine J_aload_n (i := 0) 0 18 dX0_readPolicy_17 rfl rfl rfl ?_
    obtain ⟨v1, hv1, h⟩ := some_of_bind h
    refine J_gI 21 dX0_readPolicy_18 rfl fk_z_257 hv1 ?_
    refine J_icmp_ge 64 24 dX0_readPolicy_21 (by decide) rfl (fun c2 => ?_) (fun c2 => ?_)
    · rw [if_pos c2] at h
      exact hk64 l2 σ h
    · rw [if_neg c2] at h
      refine J_aload_n (i := 0) 0 25 dX0_readPolicy_24 rfl rfl rfl ?_
      obtain ⟨v3, hv3, h⟩ := some_of_bind h
      refine J_gR 28 dX0_readPolicy_25 rfl fk_z_258 hv3 ?_
      refine J_iload_n (i := 2) 2 29 dX0_readPolicy_28 rfl rfl rfl ?_
      obtain ⟨v4, hv4, h⟩ := some_of_bind h
      refine J_bald 30 dX0_readPolicy_29 rfl hv4 ?_
      refine J_bipush 32 dX0_readPolicy_30 rfl (97 : Int32) kbp_97 ?_
      refine J_icmp_lt 64 35 dX0_readPolicy_32 (by decide) rfl (fun c5 => ?_) (fun c5 => ?_)
      · rw [if_pos c5] at h
        exact hk64 l2 σ h
      · rw [if_neg c5] at h
        refine J_aload_n (i := 0) 0 36 dX0_readPolicy_35 rfl rfl rfl ?_
        obtain ⟨v6, hv6, h⟩ := some_of_bind h
        refine J_gR 39 dX0_readPolicy_36 rfl fk_z_258 hv6 ?_
        refine J_iload_n (i := 2) 2 40 dX0_readPolicy_39 rfl rfl rfl ?_
        obtain ⟨v7, hv7, h⟩ := some_of_bind h
        refine J_bald 41 dX0_readPolicy_40 rfl hv7 ?_
        refine J_bipush 43 dX0_readPolicy_41 rfl (122 : Int32) kbp_122 ?_
        refine J_icmp_gt 64 46 dX0_readPolicy_43 (by decide) rfl (fun c8 => ?_) (fun c8 => ?_)
        · rw [if_pos c8] at h
          exact hk64 l2 σ h
        · rw [if_neg c8] at h
          refine J_aload_n (i := 3) 3 47 dX0_readPolicy_46 rfl rfl rfl ?_
          refine J_aload_n (i := 0) 0 48 dX0_readPolicy_47 rfl rfl rfl ?_
          obtain ⟨v9, hv9, h⟩ := some_of_bind h
          refine J_gR 51 dX0_readPolicy_48 rfl fk_z_258 hv9 ?_
          refine J_iload_n (i := 2) 2 52 dX0_readPolicy_51 rfl rfl rfl ?_
          refine J_iinc (i := 2) (v := l2 + (1 : Int32)) 2 55 [(2, 1, .int (l2 + (1 : Int32))), (0, 1, va_rf l0), (1, 1, .int l1), (3, 1, va_rf l3)] dX0_readPolicy_52 rfl rfl (Nat.le_of_ble_eq_true rfl) (by rw [kic_1]) rfl ?_
          obtain ⟨v10, hv10, h⟩ := some_of_bind h
          refine J_bald 56 dX0_readPolicy_55 rfl hv10 ?_
          refine J_i2c 57 dX0_readPolicy_56 rfl ?_
          obtain ⟨b12, hb12, h⟩ := some_of_bind h
          obtain ⟨q11, hq11, h⟩ := some_of_bind h
          refine J_cVr 60 dX0_readPolicy_57 rfl ykJ14_append (Or.inl q815) q816 q817 (Nat.le_of_ble_eq_true rfl) cs_nil (by decide) [.int (i2c v10)] hb12 (by decide) rfl rfl rfl (sJ14_append hγ l3 (i2c v10) σ q11 hq11) ?_
          refine J_popr 61 dX0_readPolicy_60 rfl ?_
          refine J_goto 16 dX0_readPolicy_61 (by decide) ?_
          refine J.pick [1, 2, 0, 3] rfl ?_
          exact ih (l2 + (1 : Int32)) q11.2 h
def X0_readPolicy_c103  (l0 : Option Nat) (l4 : Int32) (s0 : Option Nat) (s1 : Int32) (σ : Hp) : Option (Int32 × Hp) :=
  (pI σ s0 [0] 11 s1).bind fun σ1 =>
  (gI σ1 l0 [0] 11).bind fun v2 =>
  if v2 = (-1 : Int32) then
    some (l4, σ1)
  else
    some ((-1 : Int32), σ1)
set_option maxHeartbeats 4000000 in
theorem jX0_readPolicy_c103 {γ : GP} {σ0 : Hp} {q : (Int32 × Hp)} (hγ : GOK γ) (l0 : Option Nat) (l4 : Int32)  (s0 : Option Nat) (s1 : Int32) (σ : Hp) (h : X0_readPolicy_c103 l0 l4 s0 s1 σ = some q) : J γ mX0_readPolicy (σ0, .inr (some (.int q.1)), q.2) σ 103 [(0, 1, va_rf l0), (4, 1, .int l4)] [.int s1, va_rf s0] := by
  unfold X0_readPolicy_c103 at h
  obtain ⟨σ1, hσ1, h⟩ := some_of_bind h
  refine J_pI 106 dX0_readPolicy_103 rfl pk_s_410 hσ1 ?_
  refine J_aload_n (i := 0) 0 107 dX0_readPolicy_106 rfl rfl rfl ?_
  obtain ⟨v2, hv2, h⟩ := some_of_bind h
  refine J_gI 110 dX0_readPolicy_107 rfl fk_z_274 hv2 ?_
  refine J_ic 111 dX0_readPolicy_110 rfl (-1 : Int32) kic_m1 ?_
  refine J_icmp_ne 119 114 dX0_readPolicy_111 (by decide) rfl (fun c3 => ?_) (fun c3 => ?_)
  · rw [if_neg c3] at h
    refine J_ic 120 dX0_readPolicy_119 rfl (-1 : Int32) kic_m1 ?_
    exact J_iret rfl dX0_readPolicy_120 (retI h)
  · rw [if_pos c3] at h
    refine J_iload (i := 4) 1 116 dX0_readPolicy_114 rfl rfl ?_
    refine J_goto 120 dX0_readPolicy_116 (by decide) ?_
    exact J_iret rfl dX0_readPolicy_120 (retI h)
def X0_readPolicy_c64  (l0 : Option Nat) (l1 : Int32) (l2 : Int32) (l3 : Option Nat)  (σ : Hp) : Option (Int32 × Hp) :=
  (X8_numberOf l3 σ).bind fun q1 =>
  (cT q1.2 l0 0).bind fun b3 =>
  (X0_behindBlanks l0 l2 q1.2).bind fun q2 =>
  if q1.1 = (-1 : Int32) then
    X0_readPolicy_c103  l0 q1.1 l0 l1 q2.2
  else
    (gI q2.2 l0 [0] 15).bind fun v5 =>
    if v5 ≤ q2.1 then
      X0_readPolicy_c103  l0 q1.1 l0 (-1 : Int32) q2.2
    else
      X0_readPolicy_c103  l0 q1.1 l0 q2.1 q2.2
set_option maxHeartbeats 4000000 in
theorem jX0_readPolicy_c64 {γ : GP} {σ0 : Hp} {q : (Int32 × Hp)} (hγ : GOK γ) (l0 : Option Nat) (l1 : Int32) (l2 : Int32) (l3 : Option Nat)   (σ : Hp) (h : X0_readPolicy_c64 l0 l1 l2 l3 σ = some q) : J γ mX0_readPolicy (σ0, .inr (some (.int q.1)), q.2) σ 64 [(0, 1, va_rf l0), (1, 1, .int l1), (2, 1, .int l2), (3, 1, va_rf l3)] [] := by
  unfold X0_readPolicy_c64 at h
  refine J_aload_n (i := 3) 3 65 dX0_readPolicy_64 rfl rfl rfl ?_
  obtain ⟨q1, hq1, h⟩ := some_of_bind h
  refine J_cSi 68 dX0_readPolicy_65 rfl ykX8_numberOf (Or.inl q902) q903 (Nat.le_of_ble_eq_true rfl) cs_nil (by decide) [va_rf l3] rfl rfl (sX8_numberOf hγ l3 σ q1 hq1) ?_
  refine J_istore (i := 4) 70 [(4, 1, .int q1.1), (0, 1, va_rf l0), (1, 1, .int l1), (2, 1, .int l2), (3, 1, va_rf l3)] dX0_readPolicy_68 rfl (Nat.le_of_ble_eq_true rfl) rfl ?_
  refine J_aload_n (i := 0) 1 71 dX0_readPolicy_70 rfl rfl rfl ?_
  refine J_iload_n (i := 2) 3 72 dX0_readPolicy_71 rfl rfl rfl ?_
  obtain ⟨b3, hb3, h⟩ := some_of_bind h
  obtain ⟨q2, hq2, h⟩ := some_of_bind h
  refine J_cVi 75 dX0_readPolicy_72 rfl ykX0_behindBlanks (Or.inl q780) q782 qs14 (Nat.le_of_ble_eq_true rfl) cs_nil (by decide) [.int l2] hb3 (by decide) rfl rfl rfl (sX0_behindBlanks hγ l0 l2 q1.2 q2 hq2) ?_
  refine J_istore (i := 5) 77 [(5, 1, .int q2.1), (4, 1, .int q1.1), (0, 1, va_rf l0), (1, 1, .int l1), (2, 1, .int l2), (3, 1, va_rf l3)] dX0_readPolicy_75 rfl (Nat.le_of_ble_eq_true rfl) rfl ?_
  refine J_aload_n (i := 0) 2 78 dX0_readPolicy_77 rfl rfl rfl ?_
  refine J_iload (i := 4) 1 80 dX0_readPolicy_78 rfl rfl ?_
  refine J_ic 81 dX0_readPolicy_80 rfl (-1 : Int32) kic_m1 ?_
  refine J_icmp_ne 88 84 dX0_readPolicy_81 (by decide) rfl (fun c4 => ?_) (fun c4 => ?_)
  · rw [if_neg c4] at h
    refine J_iload (i := 5) 0 90 dX0_readPolicy_88 rfl rfl ?_
    refine J_aload_n (i := 0) 2 91 dX0_readPolicy_90 rfl rfl rfl ?_
    obtain ⟨v5, hv5, h⟩ := some_of_bind h
    refine J_gI 94 dX0_readPolicy_91 rfl fk_z_257 hv5 ?_
    refine J_icmp_ge 102 97 dX0_readPolicy_94 (by decide) rfl (fun c6 => ?_) (fun c6 => ?_)
    · rw [if_pos c6] at h
      refine J_ic 103 dX0_readPolicy_102 rfl (-1 : Int32) kic_m1 ?_
      refine J.pick [2, 1] rfl ?_
      exact jX0_readPolicy_c103 hγ l0 q1.1 l0 (-1 : Int32) q2.2 h
    · rw [if_neg c6] at h
      refine J_iload (i := 5) 0 99 dX0_readPolicy_97 rfl rfl ?_
      refine J_goto 103 dX0_readPolicy_99 (by decide) ?_
      refine J.pick [2, 1] rfl ?_
      exact jX0_readPolicy_c103 hγ l0 q1.1 l0 q2.1 q2.2 h
  · rw [if_pos c4] at h
    refine J_iload_n (i := 1) 3 85 dX0_readPolicy_84 rfl rfl rfl ?_
    refine J_goto 103 dX0_readPolicy_85 (by decide) ?_
    refine J.pick [2, 1] rfl ?_
    exact jX0_readPolicy_c103 hγ l0 q1.1 l0 l1 q2.2 h
def X0_readPolicy (l0 : Option Nat) (σ : Hp) : Option (Int32 × Hp) :=
  (cT σ l0 0).bind fun b2 =>
  (X0_behindBlanks l0 (0 : Int32) σ).bind fun q1 =>
  (some (hsz q1.2)).bind fun b4 =>
  (J14_init (some (hsz q1.2))  (wN q1.2 35 0 4)).bind fun q3 =>
  X0_readPolicy_c16 l0 q1.1 (some (hsz q1.2)) (fun x5 τ6 =>
    X0_readPolicy_c64  l0 q1.1 x5 (some (hsz q1.2))  τ6) FUEL q1.1 q3
set_option maxHeartbeats 4000000 in
theorem sX0_readPolicy {γ : GP} (hγ : GOK γ) (l0 : Option Nat) (σ : Hp) (q : (Int32 × Hp)) (h : X0_readPolicy l0 σ = some q) : Rn γ mX0_readPolicy yX0_readPolicy [va_rf l0] (σ, .inr (some (.int q.1)), q.2) := by
  refine J_m hγ ykX0_readPolicy rfl [(1, va_rf l0)] (cats_r cats_nil) (Nat.le_of_ble_eq_true rfl) ?_
  show J γ mX0_readPolicy _ σ 0 [(0, 1, va_rf l0)] []
  unfold X0_readPolicy at h
  refine J_aload_n (i := 0) 0 1 dX0_readPolicy_0 rfl rfl rfl ?_
  refine J_ic 2 dX0_readPolicy_1 rfl (0 : Int32) kic_0 ?_
  obtain ⟨b2, hb2, h⟩ := some_of_bind h
  obtain ⟨q1, hq1, h⟩ := some_of_bind h
  refine J_cVi 5 dX0_readPolicy_2 rfl ykX0_behindBlanks (Or.inl q780) q782 qs14 (Nat.le_of_ble_eq_true rfl) cs_nil (by decide) [.int (0 : Int32)] hb2 (by decide) rfl rfl rfl (sX0_behindBlanks hγ l0 (0 : Int32) σ q1 hq1) ?_
  refine J_istore_n (i := 1) 6 [(1, 1, .int q1.1), (0, 1, va_rf l0)] dX0_readPolicy_5 rfl rfl (Nat.le_of_ble_eq_true rfl) rfl ?_
  refine J_iload_n (i := 1) 0 7 dX0_readPolicy_6 rfl rfl rfl ?_
  refine J_istore_n (i := 2) 8 [(2, 1, .int q1.1), (1, 1, .int q1.1), (0, 1, va_rf l0)] dX0_readPolicy_7 rfl rfl (Nat.le_of_ble_eq_true rfl) rfl ?_
  refine J_new (c9 := 35) (nsl := 4) rfl (by decide) (by decide +kernel) q784 q785 q151 11 dX0_readPolicy_8 rfl ?_
  refine J_dupr 12 dX0_readPolicy_11 rfl ?_
  obtain ⟨b4, hb4, h⟩ := some_of_bind h
  obtain ⟨q3, hq3, h⟩ := some_of_bind h
  refine J_cI 15 dX0_readPolicy_12 rfl ykJ14_init rfl (Or.inl q786) q787 rfl (Nat.le_of_ble_eq_true rfl) (cs_rf cs_nil) (by decide) [] hb4 rfl rfl (sJ14_init hγ (some (hsz q1.2))  (wN q1.2 35 0 4) q3 hq3) ?_
  refine J_astore_n (i := 3) 16 [(3, 1, va_rf (some (hsz q1.2))), (2, 1, .int q1.1), (1, 1, .int q1.1), (0, 1, va_rf l0)] dX0_readPolicy_15 rfl rfl (Nat.le_of_ble_eq_true rfl) rfl ?_
  refine J.pick [3, 2, 1, 0] rfl ?_
  refine jX0_readPolicy_c16 hγ l0 q1.1 (some (hsz q1.2)) (fun x5 τ6 h => ?_) FUEL q1.1 q3 h
  · exact jX0_readPolicy_c64 hγ l0 q1.1 x5 (some (hsz q1.2))  τ6 h
abbrev mX0_policy : MP := (cX0_policy, "MissCurves", 2, (Option.some FieldType.int), 11, "policy", [])
theorem ykX0_policy : YK yX0_policy mX0_policy 0 := ⟨q775, q128, ⟨by decide, by decide⟩, by decide +kernel, Nat.le_of_ble_eq_true rfl, by decide, rfl, rfl⟩
theorem pk_s_411 {nm9 : String} : POK "MissCurves" nm9 261 [1] 4 .int := POK.one (by decide) rfl (Nat.le_of_ble_eq_true rfl) (Or.inr ⟨_, q301⟩) rfl (by decide +kernel) (Or.inl rfl)
def X0_policy (l0 : Option Nat) (σ : Hp) : Option (Int32 × Hp) :=
  (cT σ l0 0).bind fun b2 =>
  (X0_readPolicy l0  σ).bind fun q1 =>
  (pI q1.2 l0 [0] 15 (0 : Int32)).bind fun σ3 =>
  if q1.1 = (-1 : Int32) then
    (cT σ3 l0 0).bind fun b10 =>
    (X0_tell l0 (-6 : Int32) σ3).bind fun q9 =>
    some (q9.1, q9.2)
  else
    (gR σ3 l0 [0] 0).bind fun v5 =>
    (pI σ3 v5 [1] 4 q1.1).bind fun σ6 =>
    (cT σ6 l0 0).bind fun b8 =>
    (X0_tell l0 q1.1 σ6).bind fun q7 =>
    some (q7.1, q7.2)
set_option maxHeartbeats 4000000 in
theorem sX0_policy {γ : GP} (hγ : GOK γ) (l0 : Option Nat) (σ : Hp) (q : (Int32 × Hp)) (h : X0_policy l0 σ = some q) : Rn γ mX0_policy yX0_policy [va_rf l0] (σ, .inr (some (.int q.1)), q.2) := by
  refine J_m hγ ykX0_policy rfl [(1, va_rf l0)] (cats_r cats_nil) (Nat.le_of_ble_eq_true rfl) ?_
  show J γ mX0_policy _ σ 0 [(0, 1, va_rf l0)] []
  unfold X0_policy at h
  refine J_aload_n (i := 0) 0 1 dX0_policy_0 rfl rfl rfl ?_
  obtain ⟨b2, hb2, h⟩ := some_of_bind h
  obtain ⟨q1, hq1, h⟩ := some_of_bind h
  refine J_cVi 4 dX0_policy_1 rfl ykX0_readPolicy (Or.inl q776) q778 qs13 (Nat.le_of_ble_eq_true rfl) cs_nil (by decide) [] hb2 (by decide) rfl rfl rfl (sX0_readPolicy hγ l0  σ q1 hq1) ?_
  refine J_istore_n (i := 1) 5 [(1, 1, .int q1.1), (0, 1, va_rf l0)] dX0_policy_4 rfl rfl (Nat.le_of_ble_eq_true rfl) rfl ?_
  refine J_aload_n (i := 0) 1 6 dX0_policy_5 rfl rfl rfl ?_
  refine J_ic 7 dX0_policy_6 rfl (0 : Int32) kic_0 ?_
  obtain ⟨σ3, hσ3, h⟩ := some_of_bind h
  refine J_pI 10 dX0_policy_7 rfl pk_z_273 hσ3 ?_
  refine J_iload_n (i := 1) 0 11 dX0_policy_10 rfl rfl rfl ?_
  refine J_ic 12 dX0_policy_11 rfl (-1 : Int32) kic_m1 ?_
  refine J_icmp_ne 22 15 dX0_policy_12 (by decide) rfl (fun c4 => ?_) (fun c4 => ?_)
  · rw [if_neg c4] at h
    refine J_aload_n (i := 0) 1 23 dX0_policy_22 rfl rfl rfl ?_
    obtain ⟨v5, hv5, h⟩ := some_of_bind h
    refine J_gR 26 dX0_policy_23 rfl fk_x_133 hv5 ?_
    refine J_iload_n (i := 1) 0 27 dX0_policy_26 rfl rfl rfl ?_
    obtain ⟨σ6, hσ6, h⟩ := some_of_bind h
    refine J_pI 30 dX0_policy_27 rfl pk_s_411 hσ6 ?_
    refine J_aload_n (i := 0) 1 31 dX0_policy_30 rfl rfl rfl ?_
    refine J_iload_n (i := 1) 0 32 dX0_policy_31 rfl rfl rfl ?_
    obtain ⟨b8, hb8, h⟩ := some_of_bind h
    obtain ⟨q7, hq7, h⟩ := some_of_bind h
    refine J_cVi 35 dX0_policy_32 rfl ykX0_tell (Or.inl q630) q632 qs7 (Nat.le_of_ble_eq_true rfl) cs_nil (by decide) [.int q1.1] hb8 (by decide) rfl rfl rfl (sX0_tell hγ l0 q1.1 σ6 q7 hq7) ?_
    exact J_iret rfl dX0_policy_35 (retI h)
  · rw [if_pos c4] at h
    refine J_aload_n (i := 0) 1 16 dX0_policy_15 rfl rfl rfl ?_
    refine J_bipush 18 dX0_policy_16 rfl (-6 : Int32) kbp_m6 ?_
    obtain ⟨b10, hb10, h⟩ := some_of_bind h
    obtain ⟨q9, hq9, h⟩ := some_of_bind h
    refine J_cVi 21 dX0_policy_18 rfl ykX0_tell (Or.inl q630) q632 qs7 (Nat.le_of_ble_eq_true rfl) cs_nil (by decide) [.int (-6 : Int32)] hb10 (by decide) rfl rfl rfl (sX0_tell hγ l0 (-6 : Int32) σ3 q9 hq9) ?_
    exact J_iret rfl dX0_policy_21 (retI h)
abbrev mJ4_checkFromToIndex : MP := (cJ4_checkFromToIndex, "jdk/internal/util/Preconditions", 4, (Option.some FieldType.int), 1, "checkFromToIndex", [])
theorem ykJ4_checkFromToIndex : YK yJ4_checkFromToIndex mJ4_checkFromToIndex 4 := ⟨q1696, q140, ⟨by decide, by decide⟩, by decide +kernel, Nat.le_of_ble_eq_true rfl, by decide, rfl, rfl⟩
def J4_checkFromToIndex_c14  (l0 : Int32) (l1 : Int32) (l2 : Int32) (l3 : Option Nat)  (σ : Hp) : Option (Int32 × Hp) :=
  none
set_option maxHeartbeats 4000000 in
theorem jJ4_checkFromToIndex_c14 {γ : GP} {σ0 : Hp} {q : (Int32 × Hp)} (hγ : GOK γ) (l0 : Int32) (l1 : Int32) (l2 : Int32) (l3 : Option Nat)   (σ : Hp) (h : J4_checkFromToIndex_c14 l0 l1 l2 l3 σ = some q) : J γ mJ4_checkFromToIndex (σ0, .inr (some (.int q.1)), q.2) σ 14 [(0, 1, .int l0), (1, 1, .int l1), (2, 1, .int l2), (3, 1, va_rf l3)] [] := by
  unfold J4_checkFromToIndex_c14 at h
  refine J_aload_n (i := 3) 3 15 dJ4_checkFromToIndex_14 rfl rfl rfl ?_
  refine J_iload_n (i := 0) 0 16 dJ4_checkFromToIndex_15 rfl rfl rfl ?_
  refine J_iload_n (i := 1) 1 17 dJ4_checkFromToIndex_16 rfl rfl rfl ?_
  refine J_iload_n (i := 2) 2 18 dJ4_checkFromToIndex_17 rfl rfl rfl ?_
  cases h
def J4_checkFromToIndex (l0 : Int32) (l1 : Int32) (l2 : Int32) (l3 : Option Nat) (σ : Hp) : Option (Int32 × Hp) :=
  if l0 < 0 then
    J4_checkFromToIndex_c14  l0 l1 l2 l3  σ
  else
    if l1 < l0 then
      J4_checkFromToIndex_c14  l0 l1 l2 l3  σ
    else
      if l1 ≤ l2 then
        some (l0, σ)
      else
        J4_checkFromToIndex_c14  l0 l1 l2 l3  σ
set_option maxHeartbeats 4000000 in
theorem sJ4_checkFromToIndex {γ : GP} (hγ : GOK γ) (l0 : Int32) (l1 : Int32) (l2 : Int32) (l3 : Option Nat) (σ : Hp) (q : (Int32 × Hp)) (h : J4_checkFromToIndex l0 l1 l2 l3 σ = some q) : Rn γ mJ4_checkFromToIndex yJ4_checkFromToIndex [.int l0, .int l1, .int l2, va_rf l3] (σ, .inr (some (.int q.1)), q.2) := by
  refine J_m hγ ykJ4_checkFromToIndex rfl [(1, .int l0), (1, .int l1), (1, .int l2), (1, va_rf l3)] (cats_i (cats_i (cats_i (cats_r cats_nil)))) (Nat.le_of_ble_eq_true rfl) ?_
  show J γ mJ4_checkFromToIndex _ σ 0 [(0, 1, .int l0), (1, 1, .int l1), (2, 1, .int l2), (3, 1, va_rf l3)] []
  unfold J4_checkFromToIndex at h
  refine J_iload_n (i := 0) 0 1 dJ4_checkFromToIndex_0 rfl rfl rfl ?_
  refine J_if_lt 14 4 dJ4_checkFromToIndex_1 (by decide) rfl (fun c1 => ?_) (fun c1 => ?_)
  · rw [if_pos c1] at h
    exact jJ4_checkFromToIndex_c14 hγ l0 l1 l2 l3  σ h
  · rw [if_neg c1] at h
    refine J_iload_n (i := 0) 0 5 dJ4_checkFromToIndex_4 rfl rfl rfl ?_
    refine J_iload_n (i := 1) 1 6 dJ4_checkFromToIndex_5 rfl rfl rfl ?_
    refine J_icmp_gt 14 9 dJ4_checkFromToIndex_6 (by decide) rfl (fun c2 => ?_) (fun c2 => ?_)
    · rw [if_pos c2] at h
      exact jJ4_checkFromToIndex_c14 hγ l0 l1 l2 l3  σ h
    · rw [if_neg c2] at h
      refine J_iload_n (i := 1) 1 10 dJ4_checkFromToIndex_9 rfl rfl rfl ?_
      refine J_iload_n (i := 2) 2 11 dJ4_checkFromToIndex_10 rfl rfl rfl ?_
      refine J_icmp_le 22 14 dJ4_checkFromToIndex_11 (by decide) rfl (fun c3 => ?_) (fun c3 => ?_)
      · rw [if_pos c3] at h
        refine J_iload_n (i := 0) 0 23 dJ4_checkFromToIndex_22 rfl rfl rfl ?_
        exact J_iret rfl dJ4_checkFromToIndex_23 (retI h)
      · rw [if_neg c3] at h
        exact jJ4_checkFromToIndex_c14 hγ l0 l1 l2 l3  σ h
abbrev mJ12_checkBoundsBeginEnd : MP := (cJ12_checkBoundsBeginEnd, "java/lang/String", 3, (Option.none : Option FieldType), 2, "checkBoundsBeginEnd", [])
theorem ykJ12_checkBoundsBeginEnd : YK yJ12_checkBoundsBeginEnd mJ12_checkBoundsBeginEnd 3 := ⟨q1693, q148, ⟨by decide, by decide⟩, by decide +kernel, Nat.le_of_ble_eq_true rfl, by decide, rfl, rfl⟩
def J12_checkBoundsBeginEnd (l0 : Int32) (l1 : Int32) (l2 : Int32) (σ : Hp) : Option Hp :=
  (J4_checkFromToIndex l0 l1 l2 (hst σ 5) σ).bind fun q1 =>
  some q1.2
set_option maxHeartbeats 4000000 in
theorem sJ12_checkBoundsBeginEnd {γ : GP} (hγ : GOK γ) (l0 : Int32) (l1 : Int32) (l2 : Int32) (σ : Hp) (q : Hp) (h : J12_checkBoundsBeginEnd l0 l1 l2 σ = some q) : Rn γ mJ12_checkBoundsBeginEnd yJ12_checkBoundsBeginEnd [.int l0, .int l1, .int l2] (σ, .inr none, q) := by
  refine J_m hγ ykJ12_checkBoundsBeginEnd rfl [(1, .int l0), (1, .int l1), (1, .int l2)] (cats_i (cats_i (cats_i cats_nil))) (Nat.le_of_ble_eq_true rfl) ?_
  show J γ mJ12_checkBoundsBeginEnd _ σ 0 [(0, 1, .int l0), (1, 1, .int l1), (2, 1, .int l2)] []
  unfold J12_checkBoundsBeginEnd at h
  refine J_iload_n (i := 0) 0 1 dJ12_checkBoundsBeginEnd_0 rfl rfl rfl ?_
  refine J_iload_n (i := 1) 1 2 dJ12_checkBoundsBeginEnd_1 rfl rfl rfl ?_
  refine J_iload_n (i := 2) 2 3 dJ12_checkBoundsBeginEnd_2 rfl rfl rfl ?_
  refine J_gets (k := 5) (by decide) q878 6 dJ12_checkBoundsBeginEnd_3 rfl ?_
  obtain ⟨q1, hq1, h⟩ := some_of_bind h
  refine J_cSi 9 dJ12_checkBoundsBeginEnd_6 rfl ykJ4_checkFromToIndex (Or.inl q1694) q1695 (Nat.le_of_ble_eq_true rfl) cs_nil (by decide) [.int l0, .int l1, .int l2, va_rf (hst σ 5)] rfl rfl (sJ4_checkFromToIndex hγ l0 l1 l2 (hst σ 5) σ q1 hq1) ?_
  refine J_popi 10 dJ12_checkBoundsBeginEnd_9 rfl ?_
  exact J_vret rfl dJ12_checkBoundsBeginEnd_10 (retV h)
abbrev mJ15_checkBoundsBeginEnd : MP := (cJ15_checkBoundsBeginEnd, "java/lang/StringUTF16", 3, (Option.none : Option FieldType), 3, "checkBoundsBeginEnd", [])
theorem ykJ15_checkBoundsBeginEnd : YK yJ15_checkBoundsBeginEnd mJ15_checkBoundsBeginEnd 3 := ⟨q1690, q152, ⟨by decide, by decide⟩, by decide +kernel, Nat.le_of_ble_eq_true rfl, by decide, rfl, rfl⟩
def J15_checkBoundsBeginEnd (l0 : Int32) (l1 : Int32) (l2 : Option Nat) (σ : Hp) : Option Hp :=
  (J15_length l2 σ).bind fun q1 =>
  (J12_checkBoundsBeginEnd l0 l1 q1.1 q1.2).bind fun q2 =>
  some q2
set_option maxHeartbeats 4000000 in
theorem sJ15_checkBoundsBeginEnd {γ : GP} (hγ : GOK γ) (l0 : Int32) (l1 : Int32) (l2 : Option Nat) (σ : Hp) (q : Hp) (h : J15_checkBoundsBeginEnd l0 l1 l2 σ = some q) : Rn γ mJ15_checkBoundsBeginEnd yJ15_checkBoundsBeginEnd [.int l0, .int l1, va_rf l2] (σ, .inr none, q) := by
  refine J_m hγ ykJ15_checkBoundsBeginEnd rfl [(1, .int l0), (1, .int l1), (1, va_rf l2)] (cats_i (cats_i (cats_r cats_nil))) (Nat.le_of_ble_eq_true rfl) ?_
  show J γ mJ15_checkBoundsBeginEnd _ σ 0 [(0, 1, .int l0), (1, 1, .int l1), (2, 1, va_rf l2)] []
  unfold J15_checkBoundsBeginEnd at h
  refine J_iload_n (i := 0) 0 1 dJ15_checkBoundsBeginEnd_0 rfl rfl rfl ?_
  refine J_iload_n (i := 1) 1 2 dJ15_checkBoundsBeginEnd_1 rfl rfl rfl ?_
  refine J_aload_n (i := 2) 2 3 dJ15_checkBoundsBeginEnd_2 rfl rfl rfl ?_
  obtain ⟨q1, hq1, h⟩ := some_of_bind h
  refine J_cSi 6 dJ15_checkBoundsBeginEnd_3 rfl ykJ15_length (Or.inl q872) q873 (Nat.le_of_ble_eq_true rfl) (cs_int (cs_int cs_nil)) (by decide) [va_rf l2] rfl rfl (sJ15_length hγ l2 σ q1 hq1) ?_
  obtain ⟨q2, hq2, h⟩ := some_of_bind h
  refine J_cSv 9 dJ15_checkBoundsBeginEnd_6 rfl ykJ12_checkBoundsBeginEnd (Or.inl q1691) q1692 (Nat.le_of_ble_eq_true rfl) cs_nil (by decide) [.int l0, .int l1, .int q1.1] rfl rfl (sJ12_checkBoundsBeginEnd hγ l0 l1 q1.1 q1.2 q2 hq2) ?_
  exact J_vret rfl dJ15_checkBoundsBeginEnd_9 (retV h)
abbrev mJ15_putCharsAt : MP := (cJ15_putCharsAt, "java/lang/StringUTF16", 7, (Option.some FieldType.int), 4, "putCharsAt", [])
theorem ykJ15_putCharsAt : YK yJ15_putCharsAt mJ15_putCharsAt 6 := ⟨q1687, q152, ⟨by decide, by decide⟩, by decide +kernel, Nat.le_of_ble_eq_true rfl, by decide, rfl, rfl⟩
def J15_putCharsAt (l0 : Option Nat) (l1 : Int32) (l2 : Int32) (l3 : Int32) (l4 : Int32) (l5 : Int32) (σ : Hp) : Option (Int32 × Hp) :=
  (J15_checkBoundsBeginEnd l1 (l1 + (4 : Int32)) l0 σ).bind fun q1 =>
  (J15_putChar l0 l1 l2 q1).bind fun q2 =>
  (J15_putChar l0 (l1 + (1 : Int32)) l3 q2).bind fun q3 =>
  (J15_putChar l0 ((l1 + (1 : Int32)) + (1 : Int32)) l4 q3).bind fun q4 =>
  (J15_putChar l0 (((l1 + (1 : Int32)) + (1 : Int32)) + (1 : Int32)) l5 q4).bind fun q5 =>
  none
set_option maxHeartbeats 4000000 in
theorem sJ15_putCharsAt {γ : GP} (hγ : GOK γ) (l0 : Option Nat) (l1 : Int32) (l2 : Int32) (l3 : Int32) (l4 : Int32) (l5 : Int32) (σ : Hp) (q : (Int32 × Hp)) (h : J15_putCharsAt l0 l1 l2 l3 l4 l5 σ = some q) : Rn γ mJ15_putCharsAt yJ15_putCharsAt [va_rf l0, .int l1, .int l2, .int l3, .int l4, .int l5] (σ, .inr (some (.int q.1)), q.2) := by
  refine J_m hγ ykJ15_putCharsAt rfl [(1, va_rf l0), (1, .int l1), (1, .int l2), (1, .int l3), (1, .int l4), (1, .int l5)] (cats_r (cats_i (cats_i (cats_i (cats_i (cats_i cats_nil)))))) (Nat.le_of_ble_eq_true rfl) ?_
  show J γ mJ15_putCharsAt _ σ 0 [(0, 1, va_rf l0), (1, 1, .int l1), (2, 1, .int l2), (3, 1, .int l3), (4, 1, .int l4), (5, 1, .int l5)] []
  unfold J15_putCharsAt at h
  refine J_iload_n (i := 1) 1 1 dJ15_putCharsAt_0 rfl rfl rfl ?_
  refine J_ic 2 dJ15_putCharsAt_1 rfl (4 : Int32) kic_4 ?_
  refine J_iadd 3 dJ15_putCharsAt_2 rfl ?_
  refine J_istore (i := 6) 5 [(6, 1, .int (l1 + (4 : Int32))), (0, 1, va_rf l0), (1, 1, .int l1), (2, 1, .int l2), (3, 1, .int l3), (4, 1, .int l4), (5, 1, .int l5)] dJ15_putCharsAt_3 rfl (Nat.le_of_ble_eq_true rfl) rfl ?_
  refine J_iload_n (i := 1) 2 6 dJ15_putCharsAt_5 rfl rfl rfl ?_
  refine J_iload (i := 6) 0 8 dJ15_putCharsAt_6 rfl rfl ?_
  refine J_aload_n (i := 0) 1 9 dJ15_putCharsAt_8 rfl rfl rfl ?_
  obtain ⟨q1, hq1, h⟩ := some_of_bind h
  refine J_cSv 12 dJ15_putCharsAt_9 rfl ykJ15_checkBoundsBeginEnd (Or.inl q1688) q1689 (Nat.le_of_ble_eq_true rfl) cs_nil (by decide) [.int l1, .int (l1 + (4 : Int32)), va_rf l0] rfl rfl (sJ15_checkBoundsBeginEnd hγ l1 (l1 + (4 : Int32)) l0 σ q1 hq1) ?_
  refine J_aload_n (i := 0) 1 13 dJ15_putCharsAt_12 rfl rfl rfl ?_
  refine J_iload_n (i := 1) 2 14 dJ15_putCharsAt_13 rfl rfl rfl ?_
  refine J_iinc (i := 1) (v := l1 + (1 : Int32)) 2 17 [(1, 1, .int (l1 + (1 : Int32))), (6, 1, .int (l1 + (4 : Int32))), (0, 1, va_rf l0), (2, 1, .int l2), (3, 1, .int l3), (4, 1, .int l4), (5, 1, .int l5)] dJ15_putCharsAt_14 rfl rfl (Nat.le_of_ble_eq_true rfl) (by rw [kic_1]) rfl ?_
  refine J_iload_n (i := 2) 3 18 dJ15_putCharsAt_17 rfl rfl rfl ?_
  obtain ⟨q2, hq2, h⟩ := some_of_bind h
  refine J_cSv 21 dJ15_putCharsAt_18 rfl ykJ15_putChar (Or.inl q883) q884 (Nat.le_of_ble_eq_true rfl) cs_nil (by decide) [va_rf l0, .int l1, .int l2] rfl rfl (sJ15_putChar hγ l0 l1 l2 q1 q2 hq2) ?_
  refine J_aload_n (i := 0) 2 22 dJ15_putCharsAt_21 rfl rfl rfl ?_
  refine J_iload_n (i := 1) 0 23 dJ15_putCharsAt_22 rfl rfl rfl ?_
  refine J_iinc (i := 1) (v := (l1 + (1 : Int32)) + (1 : Int32)) 0 26 [(1, 1, .int ((l1 + (1 : Int32)) + (1 : Int32))), (6, 1, .int (l1 + (4 : Int32))), (0, 1, va_rf l0), (2, 1, .int l2), (3, 1, .int l3), (4, 1, .int l4), (5, 1, .int l5)] dJ15_putCharsAt_23 rfl rfl (Nat.le_of_ble_eq_true rfl) (by rw [kic_1]) rfl ?_
  refine J_iload_n (i := 3) 4 27 dJ15_putCharsAt_26 rfl rfl rfl ?_
  obtain ⟨q3, hq3, h⟩ := some_of_bind h
  refine J_cSv 30 dJ15_putCharsAt_27 rfl ykJ15_putChar (Or.inl q883) q884 (Nat.le_of_ble_eq_true rfl) cs_nil (by decide) [va_rf l0, .int (l1 + (1 : Int32)), .int l3] rfl rfl (sJ15_putChar hγ l0 (l1 + (1 : Int32)) l3 q2 q3 hq3) ?_
  refine J_aload_n (i := 0) 2 31 dJ15_putCharsAt_30 rfl rfl rfl ?_
  refine J_iload_n (i := 1) 0 32 dJ15_putCharsAt_31 rfl rfl rfl ?_
  refine J_iinc (i := 1) (v := ((l1 + (1 : Int32)) + (1 : Int32)) + (1 : Int32)) 0 35 [(1, 1, .int (((l1 + (1 : Int32)) + (1 : Int32)) + (1 : Int32))), (6, 1, .int (l1 + (4 : Int32))), (0, 1, va_rf l0), (2, 1, .int l2), (3, 1, .int l3), (4, 1, .int l4), (5, 1, .int l5)] dJ15_putCharsAt_32 rfl rfl (Nat.le_of_ble_eq_true rfl) (by rw [kic_1]) rfl ?_
  refine J_iload (i := 4) 5 37 dJ15_putCharsAt_35 rfl rfl ?_
  obtain ⟨q4, hq4, h⟩ := some_of_bind h
  refine J_cSv 40 dJ15_putCharsAt_37 rfl ykJ15_putChar (Or.inl q883) q884 (Nat.le_of_ble_eq_true rfl) cs_nil (by decide) [va_rf l0, .int ((l1 + (1 : Int32)) + (1 : Int32)), .int l4] rfl rfl (sJ15_putChar hγ l0 ((l1 + (1 : Int32)) + (1 : Int32)) l4 q3 q4 hq4) ?_
  refine J_aload_n (i := 0) 2 41 dJ15_putCharsAt_40 rfl rfl rfl ?_
  refine J_iload_n (i := 1) 0 42 dJ15_putCharsAt_41 rfl rfl rfl ?_
  refine J_iinc (i := 1) (v := (((l1 + (1 : Int32)) + (1 : Int32)) + (1 : Int32)) + (1 : Int32)) 0 45 [(1, 1, .int ((((l1 + (1 : Int32)) + (1 : Int32)) + (1 : Int32)) + (1 : Int32))), (6, 1, .int (l1 + (4 : Int32))), (0, 1, va_rf l0), (2, 1, .int l2), (3, 1, .int l3), (4, 1, .int l4), (5, 1, .int l5)] dJ15_putCharsAt_42 rfl rfl (Nat.le_of_ble_eq_true rfl) (by rw [kic_1]) rfl ?_
  refine J_iload (i := 5) 6 47 dJ15_putCharsAt_45 rfl rfl ?_
  obtain ⟨q5, hq5, h⟩ := some_of_bind h
  refine J_cSv 50 dJ15_putCharsAt_47 rfl ykJ15_putChar (Or.inl q883) q884 (Nat.le_of_ble_eq_true rfl) cs_nil (by decide) [va_rf l0, .int (((l1 + (1 : Int32)) + (1 : Int32)) + (1 : Int32)), .int l5] rfl rfl (sJ15_putChar hγ l0 (((l1 + (1 : Int32)) + (1 : Int32)) + (1 : Int32)) l5 q4 q5 hq5) ?_
  cases h
abbrev mJ13_appendNull : MP := (cJ13_appendNull, "java/lang/AbstractStringBuilder", 3, (Option.some (FieldType.object "java/lang/AbstractStringBuilder")), 5, "appendNull", [])
theorem ykJ13_appendNull : YK yJ13_appendNull mJ13_appendNull 0 := ⟨q1684, q150, ⟨by decide, by decide⟩, by decide +kernel, Nat.le_of_ble_eq_true rfl, by decide, rfl, rfl⟩
def J13_appendNull_c76  (l0 : Option Nat) (l1 : Int32)  (σ : Hp) : Option (Option Nat × Hp) :=
  (pI σ l0 [35] 3 l1).bind fun σ1 =>
  some (l0, σ1)
set_option maxHeartbeats 4000000 in
theorem jJ13_appendNull_c76 {γ : GP} {σ0 : Hp} {q : (Option Nat × Hp)} (hγ : GOK γ) (l0 : Option Nat) (l1 : Int32)   (σ : Hp) (h : J13_appendNull_c76 l0 l1 σ = some q) : J γ mJ13_appendNull (σ0, .inr (some (va_rf q.1)), q.2) σ 76 [(0, 1, va_rf l0), (1, 1, .int l1)] [] := by
  unfold J13_appendNull_c76 at h
  refine J_aload_n (i := 0) 0 77 dJ13_appendNull_76 rfl rfl rfl ?_
  refine J_iload_n (i := 1) 1 78 dJ13_appendNull_77 rfl rfl rfl ?_
  obtain ⟨σ1, hσ1, h⟩ := some_of_bind h
  refine J_pI 81 dJ13_appendNull_78 rfl pk_s_405 hσ1 ?_
  refine J_aload_n (i := 0) 0 82 dJ13_appendNull_81 rfl rfl rfl ?_
  exact J_aret rfl (Or.inl ⟨_, rfl⟩) dJ13_appendNull_82 (retR h)
def J13_appendNull (l0 : Option Nat) (σ : Hp) : Option (Option Nat × Hp) :=
  (gI σ l0 [35] 3).bind fun v1 =>
  (cT σ l0 35).bind fun b3 =>
  (J13_ensureCapacityInternal l0 (v1 + (4 : Int32)) σ).bind fun q2 =>
  (gI q2 l0 [35] 3).bind fun v4 =>
  (gR q2 l0 [35] 0).bind fun v5 =>
  (cT q2 l0 35).bind fun b7 =>
  (J13_isLatin1 l0  q2).bind fun q6 =>
  if q6.1 = 0 then
    (J15_putCharsAt v5 v4 (110 : Int32) (117 : Int32) (108 : Int32) (108 : Int32) q6.2).bind fun q9 =>
    J13_appendNull_c76  l0 q9.1  q9.2
  else
    (sI 2 q6.2 v5 v4 (110 : Int32)).bind fun σ10 =>
    (sI 2 σ10 v5 (v4 + (1 : Int32)) (117 : Int32)).bind fun σ11 =>
    (sI 2 σ11 v5 ((v4 + (1 : Int32)) + (1 : Int32)) (108 : Int32)).bind fun σ12 =>
    (sI 2 σ12 v5 (((v4 + (1 : Int32)) + (1 : Int32)) + (1 : Int32)) (108 : Int32)).bind fun σ13 =>
    J13_appendNull_c76  l0 ((((v4 + (1 : Int32)) + (1 : Int32)) + (1 : Int32)) + (1 : Int32))  σ13
set_option maxHeartbeats 4000000 in
theorem sJ13_appendNull {γ : GP} (hγ : GOK γ) (l0 : Option Nat) (σ : Hp) (q : (Option Nat × Hp)) (h : J13_appendNull l0 σ = some q) : Rn γ mJ13_appendNull yJ13_appendNull [va_rf l0] (σ, .inr (some (va_rf q.1)), q.2) := by
  refine J_m hγ ykJ13_appendNull rfl [(1, va_rf l0)] (cats_r cats_nil) (Nat.le_of_ble_eq_true rfl) ?_
  show J γ mJ13_appendNull _ σ 0 [(0, 1, va_rf l0)] []
  unfold J13_appendNull at h
  refine J_aload_n (i := 0) 0 1 dJ13_appendNull_0 rfl rfl rfl ?_
  refine J_aload_n (i := 0) 0 2 dJ13_appendNull_1 rfl rfl rfl ?_
  obtain ⟨v1, hv1, h⟩ := some_of_bind h
  refine J_gI 5 dJ13_appendNull_2 rfl fk_s_375 hv1 ?_
  refine J_ic 6 dJ13_appendNull_5 rfl (4 : Int32) kic_4 ?_
  refine J_iadd 7 dJ13_appendNull_6 rfl ?_
  obtain ⟨b3, hb3, h⟩ := some_of_bind h
  obtain ⟨q2, hq2, h⟩ := some_of_bind h
  refine J_cWv 10 dJ13_appendNull_7 rfl ykJ13_ensureCapacityInternal (Or.inl q822) q824 (Nat.le_of_ble_eq_true rfl) cs_nil (by decide) [.int (v1 + (4 : Int32))] (RC.one hb3 (by decide) rfl qp0) rfl rfl (sJ13_ensureCapacityInternal hγ l0 (v1 + (4 : Int32)) σ q2 hq2) ?_
  refine J_aload_n (i := 0) 0 11 dJ13_appendNull_10 rfl rfl rfl ?_
  obtain ⟨v4, hv4, h⟩ := some_of_bind h
  refine J_gI 14 dJ13_appendNull_11 rfl fk_s_375 hv4 ?_
  refine J_istore_n (i := 1) 15 [(1, 1, .int v4), (0, 1, va_rf l0)] dJ13_appendNull_14 rfl rfl (Nat.le_of_ble_eq_true rfl) rfl ?_
  refine J_aload_n (i := 0) 1 16 dJ13_appendNull_15 rfl rfl rfl ?_
  obtain ⟨v5, hv5, h⟩ := some_of_bind h
  refine J_gR 19 dJ13_appendNull_16 rfl fk_s_374 hv5 ?_
  refine J_astore_n (i := 2) 20 [(2, 1, va_rf v5), (1, 1, .int v4), (0, 1, va_rf l0)] dJ13_appendNull_19 rfl rfl (Nat.le_of_ble_eq_true rfl) rfl ?_
  refine J_aload_n (i := 0) 2 21 dJ13_appendNull_20 rfl rfl rfl ?_
  obtain ⟨b7, hb7, h⟩ := some_of_bind h
  obtain ⟨q6, hq6, h⟩ := some_of_bind h
  refine J_cWi 24 dJ13_appendNull_21 rfl ykJ13_isLatin1 (Or.inl q851) q852 (Nat.le_of_ble_eq_true rfl) cs_nil (by decide) [] (RC.one hb7 (by decide) rfl q854) rfl rfl (sJ13_isLatin1 hγ l0  q2 q6 hq6) ?_
  refine J_if_eq 62 27 dJ13_appendNull_24 (by decide) rfl (fun c8 => ?_) (fun c8 => ?_)
  · rw [if_pos c8] at h
    refine J_aload_n (i := 2) 0 63 dJ13_appendNull_62 rfl rfl rfl ?_
    refine J_iload_n (i := 1) 1 64 dJ13_appendNull_63 rfl rfl rfl ?_
    refine J_bipush 66 dJ13_appendNull_64 rfl (110 : Int32) kbp_110 ?_
    refine J_bipush 68 dJ13_appendNull_66 rfl (117 : Int32) kbp_117 ?_
    refine J_bipush 70 dJ13_appendNull_68 rfl (108 : Int32) kbp_108 ?_
    refine J_bipush 72 dJ13_appendNull_70 rfl (108 : Int32) kbp_108 ?_
    obtain ⟨q9, hq9, h⟩ := some_of_bind h
    refine J_cSi 75 dJ13_appendNull_72 rfl ykJ15_putCharsAt (Or.inl q1685) q1686 (Nat.le_of_ble_eq_true rfl) cs_nil (by decide) [va_rf v5, .int v4, .int (110 : Int32), .int (117 : Int32), .int (108 : Int32), .int (108 : Int32)] rfl rfl (sJ15_putCharsAt hγ v5 v4 (110 : Int32) (117 : Int32) (108 : Int32) (108 : Int32) q6.2 q9 hq9) ?_
    refine J_istore_n (i := 1) 76 [(1, 1, .int q9.1), (2, 1, va_rf v5), (0, 1, va_rf l0)] dJ13_appendNull_75 rfl rfl (Nat.le_of_ble_eq_true rfl) rfl ?_
    refine J.pick [2, 0] rfl ?_
    exact jJ13_appendNull_c76 hγ l0 q9.1  q9.2 h
  · rw [if_neg c8] at h
    refine J_aload_n (i := 2) 0 28 dJ13_appendNull_27 rfl rfl rfl ?_
    refine J_iload_n (i := 1) 1 29 dJ13_appendNull_28 rfl rfl rfl ?_
    refine J_iinc (i := 1) (v := v4 + (1 : Int32)) 1 32 [(1, 1, .int (v4 + (1 : Int32))), (2, 1, va_rf v5), (0, 1, va_rf l0)] dJ13_appendNull_29 rfl rfl (Nat.le_of_ble_eq_true rfl) (by rw [kic_1]) rfl ?_
    refine J_bipush 34 dJ13_appendNull_32 rfl (110 : Int32) kbp_110 ?_
    obtain ⟨σ10, hσ10, h⟩ := some_of_bind h
    refine J_bast 35 dJ13_appendNull_34 rfl hσ10 ?_
    refine J_aload_n (i := 2) 1 36 dJ13_appendNull_35 rfl rfl rfl ?_
    refine J_iload_n (i := 1) 0 37 dJ13_appendNull_36 rfl rfl rfl ?_
    refine J_iinc (i := 1) (v := (v4 + (1 : Int32)) + (1 : Int32)) 0 40 [(1, 1, .int ((v4 + (1 : Int32)) + (1 : Int32))), (2, 1, va_rf v5), (0, 1, va_rf l0)] dJ13_appendNull_37 rfl rfl (Nat.le_of_ble_eq_true rfl) (by rw [kic_1]) rfl ?_
    refine J_bipush 42 dJ13_appendNull_40 rfl (117 : Int32) kbp_117 ?_
    obtain ⟨σ11, hσ11, h⟩ := some_of_bind h
    refine J_bast 43 dJ13_appendNull_42 rfl hσ11 ?_
    refine J_aload_n (i := 2) 1 44 dJ13_appendNull_43 rfl rfl rfl ?_
    refine J_iload_n (i := 1) 0 45 dJ13_appendNull_44 rfl rfl rfl ?_
    refine J_iinc (i := 1) (v := ((v4 + (1 : Int32)) + (1 : Int32)) + (1 : Int32)) 0 48 [(1, 1, .int (((v4 + (1 : Int32)) + (1 : Int32)) + (1 : Int32))), (2, 1, va_rf v5), (0, 1, va_rf l0)] dJ13_appendNull_45 rfl rfl (Nat.le_of_ble_eq_true rfl) (by rw [kic_1]) rfl ?_
    refine J_bipush 50 dJ13_appendNull_48 rfl (108 : Int32) kbp_108 ?_
    obtain ⟨σ12, hσ12, h⟩ := some_of_bind h
    refine J_bast 51 dJ13_appendNull_50 rfl hσ12 ?_
    refine J_aload_n (i := 2) 1 52 dJ13_appendNull_51 rfl rfl rfl ?_
    refine J_iload_n (i := 1) 0 53 dJ13_appendNull_52 rfl rfl rfl ?_
    refine J_iinc (i := 1) (v := (((v4 + (1 : Int32)) + (1 : Int32)) + (1 : Int32)) + (1 : Int32)) 0 56 [(1, 1, .int ((((v4 + (1 : Int32)) + (1 : Int32)) + (1 : Int32)) + (1 : Int32))), (2, 1, va_rf v5), (0, 1, va_rf l0)] dJ13_appendNull_53 rfl rfl (Nat.le_of_ble_eq_true rfl) (by rw [kic_1]) rfl ?_
    refine J_bipush 58 dJ13_appendNull_56 rfl (108 : Int32) kbp_108 ?_
    obtain ⟨σ13, hσ13, h⟩ := some_of_bind h
    refine J_bast 59 dJ13_appendNull_58 rfl hσ13 ?_
    refine J_goto 76 dJ13_appendNull_59 (by decide) ?_
    refine J.pick [2, 0] rfl ?_
    exact jJ13_appendNull_c76 hγ l0 ((((v4 + (1 : Int32)) + (1 : Int32)) + (1 : Int32)) + (1 : Int32))  σ13 h
abbrev mJ13_inflateIfNeededFor : MP := (cJ13_inflateIfNeededFor, "java/lang/AbstractStringBuilder", 2, (Option.none : Option FieldType), 7, "inflateIfNeededFor", [])
theorem ykJ13_inflateIfNeededFor : YK yJ13_inflateIfNeededFor mJ13_inflateIfNeededFor 1 := ⟨q1705, q150, ⟨by decide, by decide⟩, by decide +kernel, Nat.le_of_ble_eq_true rfl, by decide, rfl, rfl⟩
def J13_inflateIfNeededFor (l0 : Option Nat) (l1 : Option Nat) (σ : Hp) : Option Hp :=
  if (1 : Int32) = 0 then
    some σ
  else
    (gI σ l0 [35] 1).bind fun v2 =>
    (cT σ l1 34).bind fun b4 =>
    (J12_coder l1  σ).bind fun q3 =>
    if v2 = q3.1 then
      some q3.2
    else
      (cT q3.2 l0 35).bind fun b7 =>
      (J13_inflate l0  q3.2).bind fun q6 =>
      some q6
set_option maxHeartbeats 4000000 in
theorem sJ13_inflateIfNeededFor {γ : GP} (hγ : GOK γ) (l0 : Option Nat) (l1 : Option Nat) (σ : Hp) (q : Hp) (h : J13_inflateIfNeededFor l0 l1 σ = some q) : Rn γ mJ13_inflateIfNeededFor yJ13_inflateIfNeededFor [va_rf l0, va_rf l1] (σ, .inr none, q) := by
  refine J_m hγ ykJ13_inflateIfNeededFor rfl [(1, va_rf l0), (1, va_rf l1)] (cats_r (cats_r cats_nil)) (Nat.le_of_ble_eq_true rfl) ?_
  show J γ mJ13_inflateIfNeededFor _ σ 0 [(0, 1, va_rf l0), (1, 1, va_rf l1)] []
  unfold J13_inflateIfNeededFor at h
  refine J_getsI (x := 1) (by decide) q793 3 dJ13_inflateIfNeededFor_0 rfl ?_
  refine J_if_eq 21 6 dJ13_inflateIfNeededFor_3 (by decide) rfl (fun c1 => ?_) (fun c1 => ?_)
  · rw [if_pos c1] at h
    exact J_vret rfl dJ13_inflateIfNeededFor_21 (retV h)
  · rw [if_neg c1] at h
    refine J_aload_n (i := 0) 0 7 dJ13_inflateIfNeededFor_6 rfl rfl rfl ?_
    obtain ⟨v2, hv2, h⟩ := some_of_bind h
    refine J_gI 10 dJ13_inflateIfNeededFor_7 rfl fk_s_376 hv2 ?_
    refine J_aload_n (i := 1) 1 11 dJ13_inflateIfNeededFor_10 rfl rfl rfl ?_
    obtain ⟨b4, hb4, h⟩ := some_of_bind h
    obtain ⟨q3, hq3, h⟩ := some_of_bind h
    refine J_cVi 14 dJ13_inflateIfNeededFor_11 rfl ykJ12_coder (Or.inl q1706) q1185 q1186 (Nat.le_of_ble_eq_true rfl) (cs_int cs_nil) (by decide) [] hb4 (by decide) rfl rfl rfl (sJ12_coder hγ l1  σ q3 hq3) ?_
    refine J_icmp_eq 21 17 dJ13_inflateIfNeededFor_14 (by decide) rfl (fun c5 => ?_) (fun c5 => ?_)
    · rw [if_pos c5] at h
      exact J_vret rfl dJ13_inflateIfNeededFor_21 (retV h)
    · rw [if_neg c5] at h
      refine J_aload_n (i := 0) 0 18 dJ13_inflateIfNeededFor_17 rfl rfl rfl ?_
      obtain ⟨b7, hb7, h⟩ := some_of_bind h
      obtain ⟨q6, hq6, h⟩ := some_of_bind h
      refine J_cWv 21 dJ13_inflateIfNeededFor_18 rfl ykJ13_inflate (Or.inl q859) q861 (Nat.le_of_ble_eq_true rfl) cs_nil (by decide) [] (RC.one hb7 (by decide) rfl qp2) rfl rfl (sJ13_inflate hγ l0  q3.2 q6 hq6) ?_
      exact J_vret rfl dJ13_inflateIfNeededFor_21 (retV h)
abbrev mJ12_getBytes : MP := (cJ12_getBytes, "java/lang/String", 4, (Option.none : Option FieldType), 6, "getBytes", [])
theorem ykJ12_getBytes : YK yJ12_getBytes mJ12_getBytes 3 := ⟨q1710, q148, ⟨by decide, by decide⟩, by decide +kernel, Nat.le_of_ble_eq_true rfl, by decide, rfl, rfl⟩
def J12_getBytes (l0 : Option Nat) (l1 : Option Nat) (l2 : Int32) (l3 : Int32) (σ : Hp) : Option Hp :=
  (cT σ l0 34).bind fun b2 =>
  (J12_coder l0  σ).bind fun q1 =>
  if q1.1 = l3 then
    (gR q1.2 l0 [34] 0).bind fun v8 =>
    (gR q1.2 l0 [34] 0).bind fun v9 =>
    (aN q1.2 v9).bind fun v10 =>
    (cpI 2 q1.2 v8 (0 : Int32) l1 (l2 <<< (l3 &&& 31)) v10).bind fun σ11 =>
    some σ11
  else
    (gR q1.2 l0 [34] 0).bind fun v4 =>
    (gR q1.2 l0 [34] 0).bind fun v5 =>
    (aN q1.2 v5).bind fun v6 =>
    (J17_inflate v4 (0 : Int32) l1 l2 v6 q1.2).bind fun q7 =>
    some q7
set_option maxHeartbeats 4000000 in
theorem sJ12_getBytes {γ : GP} (hγ : GOK γ) (l0 : Option Nat) (l1 : Option Nat) (l2 : Int32) (l3 : Int32) (σ : Hp) (q : Hp) (h : J12_getBytes l0 l1 l2 l3 σ = some q) : Rn γ mJ12_getBytes yJ12_getBytes [va_rf l0, va_rf l1, .int l2, .int l3] (σ, .inr none, q) := by
  refine J_m hγ ykJ12_getBytes rfl [(1, va_rf l0), (1, va_rf l1), (1, .int l2), (1, .int l3)] (cats_r (cats_r (cats_i (cats_i cats_nil)))) (Nat.le_of_ble_eq_true rfl) ?_
  show J γ mJ12_getBytes _ σ 0 [(0, 1, va_rf l0), (1, 1, va_rf l1), (2, 1, .int l2), (3, 1, .int l3)] []
  unfold J12_getBytes at h
  refine J_aload_n (i := 0) 0 1 dJ12_getBytes_0 rfl rfl rfl ?_
  obtain ⟨b2, hb2, h⟩ := some_of_bind h
  obtain ⟨q1, hq1, h⟩ := some_of_bind h
  refine J_cVi 4 dJ12_getBytes_1 rfl ykJ12_coder (Or.inl q1184) q1185 q1186 (Nat.le_of_ble_eq_true rfl) cs_nil (by decide) [] hb2 (by decide) rfl rfl rfl (sJ12_coder hγ l0  σ q1 hq1) ?_
  refine J_iload_n (i := 3) 3 5 dJ12_getBytes_4 rfl rfl rfl ?_
  refine J_icmp_ne 28 8 dJ12_getBytes_5 (by decide) rfl (fun c3 => ?_) (fun c3 => ?_)
  · rw [if_neg c3] at h
    refine J_aload_n (i := 0) 0 29 dJ12_getBytes_28 rfl rfl rfl ?_
    obtain ⟨v4, hv4, h⟩ := some_of_bind h
    refine J_gR 32 dJ12_getBytes_29 rfl fk_r_315 hv4 ?_
    refine J_ic 33 dJ12_getBytes_32 rfl (0 : Int32) kic_0 ?_
    refine J_aload_n (i := 1) 1 34 dJ12_getBytes_33 rfl rfl rfl ?_
    refine J_iload_n (i := 2) 2 35 dJ12_getBytes_34 rfl rfl rfl ?_
    refine J_aload_n (i := 0) 0 36 dJ12_getBytes_35 rfl rfl rfl ?_
    obtain ⟨v5, hv5, h⟩ := some_of_bind h
    refine J_gR 39 dJ12_getBytes_36 rfl fk_r_315 hv5 ?_
    obtain ⟨v6, hv6, h⟩ := some_of_bind h
    refine J_alen 40 dJ12_getBytes_39 rfl hv6 ?_
    obtain ⟨q7, hq7, h⟩ := some_of_bind h
    refine J_cSv 43 dJ12_getBytes_40 rfl ykJ17_inflate (Or.inl q1712) q864 (Nat.le_of_ble_eq_true rfl) cs_nil (by decide) [va_rf v4, .int (0 : Int32), va_rf l1, .int l2, .int v6] rfl rfl (sJ17_inflate hγ v4 (0 : Int32) l1 l2 v6 q1.2 q7 hq7) ?_
    exact J_vret rfl dJ12_getBytes_43 (retV h)
  · rw [if_pos c3] at h
    refine J_aload_n (i := 0) 0 9 dJ12_getBytes_8 rfl rfl rfl ?_
    obtain ⟨v8, hv8, h⟩ := some_of_bind h
    refine J_gR 12 dJ12_getBytes_9 rfl fk_r_315 hv8 ?_
    refine J_ic 13 dJ12_getBytes_12 rfl (0 : Int32) kic_0 ?_
    refine J_aload_n (i := 1) 1 14 dJ12_getBytes_13 rfl rfl rfl ?_
    refine J_iload_n (i := 2) 2 15 dJ12_getBytes_14 rfl rfl rfl ?_
    refine J_iload_n (i := 3) 3 16 dJ12_getBytes_15 rfl rfl rfl ?_
    refine J_ishl 17 dJ12_getBytes_16 rfl ?_
    refine J_aload_n (i := 0) 0 18 dJ12_getBytes_17 rfl rfl rfl ?_
    obtain ⟨v9, hv9, h⟩ := some_of_bind h
    refine J_gR 21 dJ12_getBytes_18 rfl fk_r_315 hv9 ?_
    obtain ⟨v10, hv10, h⟩ := some_of_bind h
    refine J_alen 22 dJ12_getBytes_21 rfl hv10 ?_
    obtain ⟨σ11, hσ11, h⟩ := some_of_bind h
    refine J_cpI 2 (by decide) (by decide) rfl rfl q1711 (Nat.le_of_ble_eq_true rfl) cs_nil (by decide) 25 dJ12_getBytes_22 rfl hσ11 ?_
    refine J_goto 43 dJ12_getBytes_25 (by decide) ?_
    exact J_vret rfl dJ12_getBytes_43 (retV h)
abbrev mJ13_putStringAt : MP := (cJ13_putStringAt, "java/lang/AbstractStringBuilder", 3, (Option.none : Option FieldType), 8, "putStringAt", [])
theorem ykJ13_putStringAt : YK yJ13_putStringAt mJ13_putStringAt 2 := ⟨q1701, q150, ⟨by decide, by decide⟩, by decide +kernel, Nat.le_of_ble_eq_true rfl, by decide, rfl, rfl⟩
def J13_putStringAt (l0 : Option Nat) (l1 : Int32) (l2 : Option Nat) (σ : Hp) : Option Hp :=
  (cT σ l0 35).bind fun b2 =>
  (J13_inflateIfNeededFor l0 l2 σ).bind fun q1 =>
  (gR q1 l0 [35] 0).bind fun v3 =>
  (gI q1 l0 [35] 1).bind fun v4 =>
  (cT q1 l2 34).bind fun b6 =>
  (J12_getBytes l2 v3 l1 v4 q1).bind fun q5 =>
  some q5
set_option maxHeartbeats 4000000 in
theorem sJ13_putStringAt {γ : GP} (hγ : GOK γ) (l0 : Option Nat) (l1 : Int32) (l2 : Option Nat) (σ : Hp) (q : Hp) (h : J13_putStringAt l0 l1 l2 σ = some q) : Rn γ mJ13_putStringAt yJ13_putStringAt [va_rf l0, .int l1, va_rf l2] (σ, .inr none, q) := by
  refine J_m hγ ykJ13_putStringAt rfl [(1, va_rf l0), (1, .int l1), (1, va_rf l2)] (cats_r (cats_i (cats_r cats_nil))) (Nat.le_of_ble_eq_true rfl) ?_
  show J γ mJ13_putStringAt _ σ 0 [(0, 1, va_rf l0), (1, 1, .int l1), (2, 1, va_rf l2)] []
  unfold J13_putStringAt at h
  refine J_aload_n (i := 0) 0 1 dJ13_putStringAt_0 rfl rfl rfl ?_
  refine J_aload_n (i := 2) 2 2 dJ13_putStringAt_1 rfl rfl rfl ?_
  obtain ⟨b2, hb2, h⟩ := some_of_bind h
  obtain ⟨q1, hq1, h⟩ := some_of_bind h
  refine J_cWv 5 dJ13_putStringAt_2 rfl ykJ13_inflateIfNeededFor (Or.inl q1702) q1704 (Nat.le_of_ble_eq_true rfl) cs_nil (by decide) [va_rf l2] (RC.one hb2 (by decide) rfl qp5) rfl rfl (sJ13_inflateIfNeededFor hγ l0 l2 σ q1 hq1) ?_
  refine J_aload_n (i := 2) 2 6 dJ13_putStringAt_5 rfl rfl rfl ?_
  refine J_aload_n (i := 0) 0 7 dJ13_putStringAt_6 rfl rfl rfl ?_
  obtain ⟨v3, hv3, h⟩ := some_of_bind h
  refine J_gR 10 dJ13_putStringAt_7 rfl fk_s_374 hv3 ?_
  refine J_iload_n (i := 1) 1 11 dJ13_putStringAt_10 rfl rfl rfl ?_
  refine J_aload_n (i := 0) 0 12 dJ13_putStringAt_11 rfl rfl rfl ?_
  obtain ⟨v4, hv4, h⟩ := some_of_bind h
  refine J_gI 15 dJ13_putStringAt_12 rfl fk_s_376 hv4 ?_
  obtain ⟨b6, hb6, h⟩ := some_of_bind h
  obtain ⟨q5, hq5, h⟩ := some_of_bind h
  refine J_cVv 18 dJ13_putStringAt_15 rfl ykJ12_getBytes (Or.inl q1707) q1708 q1709 (Nat.le_of_ble_eq_true rfl) cs_nil (by decide) [va_rf v3, .int l1, .int v4] hb6 (by decide) rfl rfl rfl (sJ12_getBytes hγ l2 v3 l1 v4 q1 q5 hq5) ?_
  exact J_vret rfl dJ13_putStringAt_18 (retV h)
abbrev mJ13_append_2 : MP := (cJ13_append_2, "java/lang/AbstractStringBuilder", 3, (Option.some (FieldType.object "java/lang/AbstractStringBuilder")), 9, "append", [])
theorem ykJ13_append_2 : YK yJ13_append_2 mJ13_append_2 1 := ⟨q1680, q150, ⟨by decide, by decide⟩, by decide +kernel, Nat.le_of_ble_eq_true rfl, by decide, rfl, rfl⟩
def J13_append_2 (l0 : Option Nat) (l1 : Option Nat) (σ : Hp) : Option (Option Nat × Hp) :=
  if l1 = none then
    (cT σ l0 35).bind fun b13 =>
    (J13_appendNull l0  σ).bind fun q12 =>
    some (q12.1, q12.2)
  else
    (cT σ l1 34).bind fun b3 =>
    (J12_length l1  σ).bind fun q2 =>
    (gI q2.2 l0 [35] 3).bind fun v4 =>
    (cT q2.2 l0 35).bind fun b6 =>
    (J13_ensureCapacityInternal l0 (v4 + q2.1) q2.2).bind fun q5 =>
    (gI q5 l0 [35] 3).bind fun v7 =>
    (cT q5 l0 35).bind fun b9 =>
    (J13_putStringAt l0 v7 l1 q5).bind fun q8 =>
    (gI q8 l0 [35] 3).bind fun v10 =>
    (pI q8 l0 [35] 3 (v10 + q2.1)).bind fun σ11 =>
    some (l0, σ11)
set_option maxHeartbeats 4000000 in
theorem sJ13_append_2 {γ : GP} (hγ : GOK γ) (l0 : Option Nat) (l1 : Option Nat) (σ : Hp) (q : (Option Nat × Hp)) (h : J13_append_2 l0 l1 σ = some q) : Rn γ mJ13_append_2 yJ13_append_2 [va_rf l0, va_rf l1] (σ, .inr (some (va_rf q.1)), q.2) := by
  refine J_m hγ ykJ13_append_2 rfl [(1, va_rf l0), (1, va_rf l1)] (cats_r (cats_r cats_nil)) (Nat.le_of_ble_eq_true rfl) ?_
  show J γ mJ13_append_2 _ σ 0 [(0, 1, va_rf l0), (1, 1, va_rf l1)] []
  unfold J13_append_2 at h
  refine J_aload_n (i := 1) 1 1 dJ13_append_2_0 rfl rfl rfl ?_
  refine J_ifnonnull 9 4 dJ13_append_2_1 (by decide) rfl (fun c1 => ?_) (fun c1 => ?_)
  · rw [if_neg c1] at h
    refine J_aload_n (i := 1) 1 10 dJ13_append_2_9 rfl rfl rfl ?_
    obtain ⟨b3, hb3, h⟩ := some_of_bind h
    obtain ⟨q2, hq2, h⟩ := some_of_bind h
    refine J_cVi 13 dJ13_append_2_10 rfl ykJ12_length (Or.inl q1697) q1181 q1182 (Nat.le_of_ble_eq_true rfl) cs_nil (by decide) [] hb3 (by decide) rfl rfl rfl (sJ12_length hγ l1  σ q2 hq2) ?_
    refine J_istore_n (i := 2) 14 [(2, 1, .int q2.1), (0, 1, va_rf l0), (1, 1, va_rf l1)] dJ13_append_2_13 rfl rfl (Nat.le_of_ble_eq_true rfl) rfl ?_
    refine J_aload_n (i := 0) 1 15 dJ13_append_2_14 rfl rfl rfl ?_
    refine J_aload_n (i := 0) 1 16 dJ13_append_2_15 rfl rfl rfl ?_
    obtain ⟨v4, hv4, h⟩ := some_of_bind h
    refine J_gI 19 dJ13_append_2_16 rfl fk_s_375 hv4 ?_
    refine J_iload_n (i := 2) 0 20 dJ13_append_2_19 rfl rfl rfl ?_
    refine J_iadd 21 dJ13_append_2_20 rfl ?_
    obtain ⟨b6, hb6, h⟩ := some_of_bind h
    obtain ⟨q5, hq5, h⟩ := some_of_bind h
    refine J_cWv 24 dJ13_append_2_21 rfl ykJ13_ensureCapacityInternal (Or.inl q822) q824 (Nat.le_of_ble_eq_true rfl) cs_nil (by decide) [.int (v4 + q2.1)] (RC.one hb6 (by decide) rfl qp0) rfl rfl (sJ13_ensureCapacityInternal hγ l0 (v4 + q2.1) q2.2 q5 hq5) ?_
    refine J_aload_n (i := 0) 1 25 dJ13_append_2_24 rfl rfl rfl ?_
    refine J_aload_n (i := 0) 1 26 dJ13_append_2_25 rfl rfl rfl ?_
    obtain ⟨v7, hv7, h⟩ := some_of_bind h
    refine J_gI 29 dJ13_append_2_26 rfl fk_s_375 hv7 ?_
    refine J_aload_n (i := 1) 2 30 dJ13_append_2_29 rfl rfl rfl ?_
    obtain ⟨b9, hb9, h⟩ := some_of_bind h
    obtain ⟨q8, hq8, h⟩ := some_of_bind h
    refine J_cWv 33 dJ13_append_2_30 rfl ykJ13_putStringAt (Or.inl q1698) q1700 (Nat.le_of_ble_eq_true rfl) cs_nil (by decide) [.int v7, va_rf l1] (RC.one hb9 (by decide) rfl qp4) rfl rfl (sJ13_putStringAt hγ l0 v7 l1 q5 q8 hq8) ?_
    refine J_aload_n (i := 0) 1 34 dJ13_append_2_33 rfl rfl rfl ?_
    refine J_dupr 35 dJ13_append_2_34 rfl ?_
    obtain ⟨v10, hv10, h⟩ := some_of_bind h
    refine J_gI 38 dJ13_append_2_35 rfl fk_s_375 hv10 ?_
    refine J_iload_n (i := 2) 0 39 dJ13_append_2_38 rfl rfl rfl ?_
    refine J_iadd 40 dJ13_append_2_39 rfl ?_
    obtain ⟨σ11, hσ11, h⟩ := some_of_bind h
    refine J_pI 43 dJ13_append_2_40 rfl pk_s_405 hσ11 ?_
    refine J_aload_n (i := 0) 1 44 dJ13_append_2_43 rfl rfl rfl ?_
    exact J_aret rfl (Or.inl ⟨_, rfl⟩) dJ13_append_2_44 (retR h)
  · rw [if_pos c1] at h
    refine J_aload_n (i := 0) 0 5 dJ13_append_2_4 rfl rfl rfl ?_
    obtain ⟨b13, hb13, h⟩ := some_of_bind h
    obtain ⟨q12, hq12, h⟩ := some_of_bind h
    refine J_cWr 8 dJ13_append_2_5 rfl ykJ13_appendNull (Or.inl q1681) q1683 (Nat.le_of_ble_eq_true rfl) cs_nil (by decide) [] (RC.one hb13 (by decide) rfl qp3) rfl rfl (sJ13_appendNull hγ l0  σ q12 hq12) ?_
    exact J_aret rfl (Or.inl ⟨_, rfl⟩) dJ13_append_2_8 (retR h)
abbrev mJ14_append_2 : MP := (cJ14_append_2, "java/lang/StringBuilder", 2, (Option.some (FieldType.object "java/lang/StringBuilder")), 10, "append", [])
theorem ykJ14_append_2 : YK yJ14_append_2 mJ14_append_2 1 := ⟨q1677, q151, ⟨by decide, by decide⟩, by decide +kernel, Nat.le_of_ble_eq_true rfl, by decide, rfl, rfl⟩
def J14_append_2 (l0 : Option Nat) (l1 : Option Nat) (σ : Hp) : Option (Option Nat × Hp) :=
  (cT σ l0 35).bind fun b2 =>
  (J13_append_2 l0 l1 σ).bind fun q1 =>
  some (l0, q1.2)
set_option maxHeartbeats 4000000 in
theorem sJ14_append_2 {γ : GP} (hγ : GOK γ) (l0 : Option Nat) (l1 : Option Nat) (σ : Hp) (q : (Option Nat × Hp)) (h : J14_append_2 l0 l1 σ = some q) : Rn γ mJ14_append_2 yJ14_append_2 [va_rf l0, va_rf l1] (σ, .inr (some (va_rf q.1)), q.2) := by
  refine J_m hγ ykJ14_append_2 rfl [(1, va_rf l0), (1, va_rf l1)] (cats_r (cats_r cats_nil)) (Nat.le_of_ble_eq_true rfl) ?_
  show J γ mJ14_append_2 _ σ 0 [(0, 1, va_rf l0), (1, 1, va_rf l1)] []
  unfold J14_append_2 at h
  refine J_aload_n (i := 0) 0 1 dJ14_append_2_0 rfl rfl rfl ?_
  refine J_aload_n (i := 1) 1 2 dJ14_append_2_1 rfl rfl rfl ?_
  obtain ⟨b2, hb2, h⟩ := some_of_bind h
  obtain ⟨q1, hq1, h⟩ := some_of_bind h
  refine J_cPr 5 dJ14_append_2_2 rfl ykJ13_append_2 q1678 q3000 q814 q1679 (by decide) (Nat.le_of_ble_eq_true rfl) cs_nil (by decide) [va_rf l1] hb2 (by decide) rfl rfl rfl (sJ13_append_2 hγ l0 l1 σ q1 hq1) ?_
  refine J_popr 6 dJ14_append_2_5 rfl ?_
  refine J_aload_n (i := 0) 0 7 dJ14_append_2_6 rfl rfl rfl ?_
  exact J_aret rfl (Or.inl ⟨_, rfl⟩) dJ14_append_2_7 (retR h)
abbrev mJ18_stringSize : MP := (cJ18_stringSize, "java/lang/Integer", 4, (Option.some FieldType.int), 0, "stringSize", [])
theorem ykJ18_stringSize : YK yJ18_stringSize mJ18_stringSize 1 := ⟨q1722, q172, ⟨by decide, by decide⟩, by decide +kernel, Nat.le_of_ble_eq_true rfl, by decide, rfl, rfl⟩
theorem kbp_m10 : (Int8.ofInt (-10)).toInt32 = (-10 : Int32) := by decide
def J18_stringSize_c16 (l0 : Int32) (l1 : Int32) (k27 : Int32 → Hp → Option (Int32 × Hp)) (k42 : Hp → Option (Int32 × Hp)) : Nat → Int32 → Int32 → Hp → Option (Int32 × Hp)
  | 0, _, _, _ => none
  | n + 1, l2, l3, σ =>
    if (10 : Int32) ≤ l3 then
      k42  σ
    else
      if l0 ≤ l2 then
        J18_stringSize_c16 l0 l1 k27 k42 n ((10 : Int32) * l2) (l3 + (1 : Int32)) σ
      else
        k27 l3 σ
set_option maxHeartbeats 4000000 in
theorem jJ18_stringSize_c16 {γ : GP} {σ0 : Hp} {q : (Int32 × Hp)} (hγ : GOK γ) (l0 : Int32) (l1 : Int32) {k27 : Int32 → Hp → Option (Int32 × Hp)} {k42 : Hp → Option (Int32 × Hp)} (hk27 : ∀ (l3 : Int32) (σ : Hp), k27 l3 σ = some q → J γ mJ18_stringSize (σ0, .inr (some (.int q.1)), q.2) σ 27 [(1, 1, .int l1), (3, 1, .int l3)] []) (hk42 : ∀  (σ : Hp), k42  σ = some q → J γ mJ18_stringSize (σ0, .inr (some (.int q.1)), q.2) σ 42 [(1, 1, .int l1)] []) : ∀ (n : Nat) (l2 : Int32) (l3 : Int32) (σ : Hp), J18_stringSize_c16 l0 l1 k27 k42 n l2 l3 σ = some q → J γ mJ18_stringSize (σ0, .inr (some (.int q.1)), q.2) σ 16 [(0, 1, .int l0), (1, 1, .int l1), (2, 1, .int l2), (3, 1, .int l3)] [] := by
  intro n
  induction n with
  | zero => intro l2 l3 σ h; exact nomatch (show none = some q from h)
  | succ n ih =>
    intro l2 l3 σ h
    rw [J18_stringSize_c16] at h
    refine J_iload_n (i := 3) 3 17 dJ18_stringSize_16 rfl rfl rfl ?_
    refine J_bipush 19 dJ18_stringSize_17 rfl (10 : Int32) kbp_10 ?_
    refine J_icmp_ge 42 22 dJ18_stringSize_19 (by decide) rfl (fun c1 => ?_) (fun c1 => ?_)
    · rw [if_pos c1] at h
      refine J.pick [1] rfl ?_
      exact hk42  σ h
    · rw [if_neg c1] at h
      refine J_iload_n (i := 0) 0 23 dJ18_stringSize_22 rfl rfl rfl ?_
      refine J_iload_n (i := 2) 2 24 dJ18_stringSize_23 rfl rfl rfl ?_
      refine J_icmp_le 31 27 dJ18_stringSize_24 (by decide) rfl (fun c2 => ?_) (fun c2 => ?_)
      · rw [if_pos c2] at h
        refine J_bipush 33 dJ18_stringSize_31 rfl (10 : Int32) kbp_10 ?_
        refine J_iload_n (i := 2) 2 34 dJ18_stringSize_33 rfl rfl rfl ?_
        refine J_imul 35 dJ18_stringSize_34 rfl ?_
        refine J_istore_n (i := 2) 36 [(2, 1, .int ((10 : Int32) * l2)), (0, 1, .int l0), (1, 1, .int l1), (3, 1, .int l3)] dJ18_stringSize_35 rfl rfl (Nat.le_of_ble_eq_true rfl) rfl ?_
        refine J_iinc (i := 3) (v := l3 + (1 : Int32)) 3 39 [(3, 1, .int (l3 + (1 : Int32))), (2, 1, .int ((10 : Int32) * l2)), (0, 1, .int l0), (1, 1, .int l1)] dJ18_stringSize_36 rfl rfl (Nat.le_of_ble_eq_true rfl) (by rw [kic_1]) rfl ?_
        refine J_goto 16 dJ18_stringSize_39 (by decide) ?_
        refine J.pick [2, 3, 1, 0] rfl ?_
        exact ih ((10 : Int32) * l2) (l3 + (1 : Int32)) σ h
      · rw [if_neg c2] at h
        refine J.pick [1, 3] rfl ?_
        exact hk27 l3 σ h
def J18_stringSize (l0 : Int32) (σ : Hp) : Option (Int32 × Hp) :=
  if l0 < 0 then
    J18_stringSize_c16 l0 (1 : Int32) (fun x2 τ3 =>
      some ((x2 + (1 : Int32)), τ3))
    (fun τ4 =>
      some (((10 : Int32) + (1 : Int32)), τ4)) FUEL (-10 : Int32) (1 : Int32) σ
  else
    J18_stringSize_c16 (-l0) (0 : Int32) (fun x5 τ6 =>
      some ((x5 + (0 : Int32)), τ6))
    (fun τ7 =>
      some (((10 : Int32) + (0 : Int32)), τ7)) FUEL (-10 : Int32) (1 : Int32) σ
set_option maxHeartbeats 4000000 in
theorem sJ18_stringSize {γ : GP} (hγ : GOK γ) (l0 : Int32) (σ : Hp) (q : (Int32 × Hp)) (h : J18_stringSize l0 σ = some q) : Rn γ mJ18_stringSize yJ18_stringSize [.int l0] (σ, .inr (some (.int q.1)), q.2) := by
  refine J_m hγ ykJ18_stringSize rfl [(1, .int l0)] (cats_i cats_nil) (Nat.le_of_ble_eq_true rfl) ?_
  show J γ mJ18_stringSize _ σ 0 [(0, 1, .int l0)] []
  unfold J18_stringSize at h
  refine J_ic 1 dJ18_stringSize_0 rfl (1 : Int32) kic_1 ?_
  refine J_istore_n (i := 1) 2 [(1, 1, .int (1 : Int32)), (0, 1, .int l0)] dJ18_stringSize_1 rfl rfl (Nat.le_of_ble_eq_true rfl) rfl ?_
  refine J_iload_n (i := 0) 1 3 dJ18_stringSize_2 rfl rfl rfl ?_
  refine J_if_lt 11 6 dJ18_stringSize_3 (by decide) rfl (fun c1 => ?_) (fun c1 => ?_)
  · rw [if_pos c1] at h
    refine J_bipush 13 dJ18_stringSize_11 rfl (-10 : Int32) kbp_m10 ?_
    refine J_istore_n (i := 2) 14 [(2, 1, .int (-10 : Int32)), (1, 1, .int (1 : Int32)), (0, 1, .int l0)] dJ18_stringSize_13 rfl rfl (Nat.le_of_ble_eq_true rfl) rfl ?_
    refine J_ic 15 dJ18_stringSize_14 rfl (1 : Int32) kic_1 ?_
    refine J_istore_n (i := 3) 16 [(3, 1, .int (1 : Int32)), (2, 1, .int (-10 : Int32)), (1, 1, .int (1 : Int32)), (0, 1, .int l0)] dJ18_stringSize_15 rfl rfl (Nat.le_of_ble_eq_true rfl) rfl ?_
    refine J.pick [3, 2, 1, 0] rfl ?_
    refine jJ18_stringSize_c16 hγ l0 (1 : Int32) (fun x2 τ3 h => ?_) (fun τ4 h => ?_) FUEL (-10 : Int32) (1 : Int32) σ h
    · refine J_iload_n (i := 3) 1 28 dJ18_stringSize_27 rfl rfl rfl ?_
      refine J_iload_n (i := 1) 0 29 dJ18_stringSize_28 rfl rfl rfl ?_
      refine J_iadd 30 dJ18_stringSize_29 rfl ?_
      exact J_iret rfl dJ18_stringSize_30 (retI h)
    · refine J_bipush 44 dJ18_stringSize_42 rfl (10 : Int32) kbp_10 ?_
      refine J_iload_n (i := 1) 0 45 dJ18_stringSize_44 rfl rfl rfl ?_
      refine J_iadd 46 dJ18_stringSize_45 rfl ?_
      exact J_iret rfl dJ18_stringSize_46 (retI h)
  · rw [if_neg c1] at h
    refine J_ic 7 dJ18_stringSize_6 rfl (0 : Int32) kic_0 ?_
    refine J_istore_n (i := 1) 8 [(1, 1, .int (0 : Int32)), (0, 1, .int l0)] dJ18_stringSize_7 rfl rfl (Nat.le_of_ble_eq_true rfl) rfl ?_
    refine J_iload_n (i := 0) 1 9 dJ18_stringSize_8 rfl rfl rfl ?_
    refine J_ineg 10 dJ18_stringSize_9 rfl ?_
    refine J_istore_n (i := 0) 11 [(0, 1, .int (-l0)), (1, 1, .int (0 : Int32))] dJ18_stringSize_10 rfl rfl (Nat.le_of_ble_eq_true rfl) rfl ?_
    refine J_bipush 13 dJ18_stringSize_11 rfl (-10 : Int32) kbp_m10 ?_
    refine J_istore_n (i := 2) 14 [(2, 1, .int (-10 : Int32)), (0, 1, .int (-l0)), (1, 1, .int (0 : Int32))] dJ18_stringSize_13 rfl rfl (Nat.le_of_ble_eq_true rfl) rfl ?_
    refine J_ic 15 dJ18_stringSize_14 rfl (1 : Int32) kic_1 ?_
    refine J_istore_n (i := 3) 16 [(3, 1, .int (1 : Int32)), (2, 1, .int (-10 : Int32)), (0, 1, .int (-l0)), (1, 1, .int (0 : Int32))] dJ18_stringSize_15 rfl rfl (Nat.le_of_ble_eq_true rfl) rfl ?_
    refine J.pick [2, 3, 1, 0] rfl ?_
    refine jJ18_stringSize_c16 hγ (-l0) (0 : Int32) (fun x5 τ6 h => ?_) (fun τ7 h => ?_) FUEL (-10 : Int32) (1 : Int32) σ h
    · refine J_iload_n (i := 3) 1 28 dJ18_stringSize_27 rfl rfl rfl ?_
      refine J_iload_n (i := 1) 0 29 dJ18_stringSize_28 rfl rfl rfl ?_
      refine J_iadd 30 dJ18_stringSize_29 rfl ?_
      exact J_iret rfl dJ18_stringSize_30 (retI h)
    · refine J_bipush 44 dJ18_stringSize_42 rfl (10 : Int32) kbp_10 ?_
      refine J_iload_n (i := 1) 0 45 dJ18_stringSize_44 rfl rfl rfl ?_
      refine J_iadd 46 dJ18_stringSize_45 rfl ?_
      exact J_iret rfl dJ18_stringSize_46 (retI h)
abbrev mJ18_getChars : MP := (cJ18_getChars, "java/lang/Integer", 7, (Option.some FieldType.int), 0, "getChars", [])
theorem ykJ18_getChars : YK yJ18_getChars mJ18_getChars 3 := ⟨q1725, q172, ⟨by decide, by decide⟩, by decide +kernel, Nat.le_of_ble_eq_true rfl, by decide, rfl, rfl⟩
theorem kbp_m100 : (Int8.ofInt (-100)).toInt32 = (-100 : Int32) := by decide
theorem kbp_m9 : (Int8.ofInt (-9)).toInt32 = (-9 : Int32) := by decide
def J18_getChars_c22 (l2 : Option Nat) (l6 : Int32) (k72 : Int32 → Int32 → Hp → Option (Int32 × Hp)) : Nat → Int32 → Int32 → Hp → Option (Int32 × Hp)
  | 0, _, _, _ => none
  | n + 1, l0, l5, σ =>
    if (-100 : Int32) < l0 then
      k72 l0 l5 σ
    else
      (aI 2 σ (hst σ 2) (((l0 / (100 : Int32)) * (100 : Int32)) - l0)).bind fun v2 =>
      (sI 2 σ l2 (l5 + (-1 : Int32)) v2).bind fun σ3 =>
      (aI 2 σ3 (hst σ3 1) (((l0 / (100 : Int32)) * (100 : Int32)) - l0)).bind fun v4 =>
      (sI 2 σ3 l2 ((l5 + (-1 : Int32)) + (-1 : Int32)) v4).bind fun σ5 =>
      J18_getChars_c22 l2 l6 k72 n (l0 / (100 : Int32)) ((l5 + (-1 : Int32)) + (-1 : Int32)) σ5
set_option maxHeartbeats 4000000 in
theorem jJ18_getChars_c22 {γ : GP} {σ0 : Hp} {q : (Int32 × Hp)} (hγ : GOK γ) (l2 : Option Nat) (l6 : Int32) {k72 : Int32 → Int32 → Hp → Option (Int32 × Hp)} (hk72 : ∀ (l0 : Int32) (l5 : Int32) (σ : Hp), k72 l0 l5 σ = some q → J γ mJ18_getChars (σ0, .inr (some (.int q.1)), q.2) σ 72 [(0, 1, .int l0), (2, 1, va_rf l2), (5, 1, .int l5), (6, 1, .int l6)] []) : ∀ (n : Nat) (l0 : Int32) (l5 : Int32) (σ : Hp), J18_getChars_c22 l2 l6 k72 n l0 l5 σ = some q → J γ mJ18_getChars (σ0, .inr (some (.int q.1)), q.2) σ 22 [(0, 1, .int l0), (2, 1, va_rf l2), (5, 1, .int l5), (6, 1, .int l6)] [] := by
  intro n
  induction n with
  | zero => intro l0 l5 σ h; exact nomatch (show none = some q from h)
  | succ n ih =>
    intro l0 l5 σ h
    rw [J18_getChars_c22] at h
    refine J_iload_n (i := 0) 0 23 dJ18_getChars_22 rfl rfl rfl ?_
    refine J_bipush 25 dJ18_getChars_23 rfl (-100 : Int32) kbp_m100 ?_
    refine J_icmp_gt 72 28 dJ18_getChars_25 (by decide) rfl (fun c1 => ?_) (fun c1 => ?_)
    · rw [if_pos c1] at h
      exact hk72 l0 l5 σ h
    · rw [if_neg c1] at h
      refine J_iload_n (i := 0) 0 29 dJ18_getChars_28 rfl rfl rfl ?_
      refine J_bipush 31 dJ18_getChars_29 rfl (100 : Int32) kbp_100 ?_
      refine J_idiv 32 dJ18_getChars_31 rfl (by decide) ?_
      refine J_istore_n (i := 3) 33 [(3, 1, .int (l0 / (100 : Int32))), (0, 1, .int l0), (2, 1, va_rf l2), (5, 1, .int l5), (6, 1, .int l6)] dJ18_getChars_32 rfl rfl (Nat.le_of_ble_eq_true rfl) rfl ?_
      refine J_iload_n (i := 3) 0 34 dJ18_getChars_33 rfl rfl rfl ?_
      refine J_bipush 36 dJ18_getChars_34 rfl (100 : Int32) kbp_100 ?_
      refine J_imul 37 dJ18_getChars_36 rfl ?_
      refine J_iload_n (i := 0) 1 38 dJ18_getChars_37 rfl rfl rfl ?_
      refine J_isub 39 dJ18_getChars_38 rfl ?_
      refine J_istore (i := 4) 41 [(4, 1, .int (((l0 / (100 : Int32)) * (100 : Int32)) - l0)), (3, 1, .int (l0 / (100 : Int32))), (0, 1, .int l0), (2, 1, va_rf l2), (5, 1, .int l5), (6, 1, .int l6)] dJ18_getChars_39 rfl (Nat.le_of_ble_eq_true rfl) rfl ?_
      refine J_iload_n (i := 3) 1 42 dJ18_getChars_41 rfl rfl rfl ?_
      refine J_istore_n (i := 0) 43 [(0, 1, .int (l0 / (100 : Int32))), (4, 1, .int (((l0 / (100 : Int32)) * (100 : Int32)) - l0)), (3, 1, .int (l0 / (100 : Int32))), (2, 1, va_rf l2), (5, 1, .int l5), (6, 1, .int l6)] dJ18_getChars_42 rfl rfl (Nat.le_of_ble_eq_true rfl) rfl ?_
      refine J_aload_n (i := 2) 3 44 dJ18_getChars_43 rfl rfl rfl ?_
      refine J_iinc (i := 5) (v := l5 + (-1 : Int32)) 4 47 [(5, 1, .int (l5 + (-1 : Int32))), (0, 1, .int (l0 / (100 : Int32))), (4, 1, .int (((l0 / (100 : Int32)) * (100 : Int32)) - l0)), (3, 1, .int (l0 / (100 : Int32))), (2, 1, va_rf l2), (6, 1, .int l6)] dJ18_getChars_44 rfl rfl (Nat.le_of_ble_eq_true rfl) (by rw [kic_m1]) rfl ?_
      refine J_iload (i := 5) 0 49 dJ18_getChars_47 rfl rfl ?_
      refine J_gets (k := 2) (by decide) q1726 52 dJ18_getChars_49 rfl ?_
      refine J_iload (i := 4) 2 54 dJ18_getChars_52 rfl rfl ?_
      obtain ⟨v2, hv2, h⟩ := some_of_bind h
      refine J_bald 55 dJ18_getChars_54 rfl hv2 ?_
      obtain ⟨σ3, hσ3, h⟩ := some_of_bind h
      refine J_bast 56 dJ18_getChars_55 rfl hσ3 ?_
      refine J_aload_n (i := 2) 4 57 dJ18_getChars_56 rfl rfl rfl ?_
      refine J_iinc (i := 5) (v := (l5 + (-1 : Int32)) + (-1 : Int32)) 0 60 [(5, 1, .int ((l5 + (-1 : Int32)) + (-1 : Int32))), (0, 1, .int (l0 / (100 : Int32))), (4, 1, .int (((l0 / (100 : Int32)) * (100 : Int32)) - l0)), (3, 1, .int (l0 / (100 : Int32))), (2, 1, va_rf l2), (6, 1, .int l6)] dJ18_getChars_57 rfl rfl (Nat.le_of_ble_eq_true rfl) (by rw [kic_m1]) rfl ?_
      refine J_iload (i := 5) 0 62 dJ18_getChars_60 rfl rfl ?_
      refine J_gets (k := 1) (by decide) q1728 65 dJ18_getChars_62 rfl ?_
      refine J_iload (i := 4) 2 67 dJ18_getChars_65 rfl rfl ?_
      obtain ⟨v4, hv4, h⟩ := some_of_bind h
      refine J_bald 68 dJ18_getChars_67 rfl hv4 ?_
      obtain ⟨σ5, hσ5, h⟩ := some_of_bind h
      refine J_bast 69 dJ18_getChars_68 rfl hσ5 ?_
      refine J_goto 22 dJ18_getChars_69 (by decide) ?_
      refine J.pick [1, 4, 0, 5] rfl ?_
      exact ih (l0 / (100 : Int32)) ((l5 + (-1 : Int32)) + (-1 : Int32)) σ5 h
def J18_getChars_c104  (l2 : Option Nat) (l5 : Int32) (l6 : Int32)  (σ : Hp) : Option (Int32 × Hp) :=
  if l6 = 0 then
    some (l5, σ)
  else
    (sI 2 σ l2 (l5 + (-1 : Int32)) (45 : Int32)).bind fun σ2 =>
    some (l5 + (-1 : Int32), σ2)
set_option maxHeartbeats 4000000 in
theorem jJ18_getChars_c104 {γ : GP} {σ0 : Hp} {q : (Int32 × Hp)} (hγ : GOK γ) (l2 : Option Nat) (l5 : Int32) (l6 : Int32)   (σ : Hp) (h : J18_getChars_c104 l2 l5 l6 σ = some q) : J γ mJ18_getChars (σ0, .inr (some (.int q.1)), q.2) σ 104 [(2, 1, va_rf l2), (5, 1, .int l5), (6, 1, .int l6)] [] := by
  unfold J18_getChars_c104 at h
  refine J_iload (i := 6) 2 106 dJ18_getChars_104 rfl rfl ?_
  refine J_if_eq 118 109 dJ18_getChars_106 (by decide) rfl (fun c1 => ?_) (fun c1 => ?_)
  · rw [if_pos c1] at h
    refine J_iload (i := 5) 1 120 dJ18_getChars_118 rfl rfl ?_
    exact J_iret rfl dJ18_getChars_120 (retI h)
  · rw [if_neg c1] at h
    refine J_aload_n (i := 2) 0 110 dJ18_getChars_109 rfl rfl rfl ?_
    refine J_iinc (i := 5) (v := l5 + (-1 : Int32)) 1 113 [(5, 1, .int (l5 + (-1 : Int32))), (2, 1, va_rf l2), (6, 1, .int l6)] dJ18_getChars_110 rfl rfl (Nat.le_of_ble_eq_true rfl) (by rw [kic_m1]) rfl ?_
    refine J_iload (i := 5) 0 115 dJ18_getChars_113 rfl rfl ?_
    refine J_bipush 117 dJ18_getChars_115 rfl (45 : Int32) kbp_45 ?_
    obtain ⟨σ2, hσ2, h⟩ := some_of_bind h
    refine J_bast 118 dJ18_getChars_117 rfl hσ2 ?_
    refine J_iload (i := 5) 0 120 dJ18_getChars_118 rfl rfl ?_
    exact J_iret rfl dJ18_getChars_120 (retI h)
def J18_getChars_c12  (l0 : Int32) (l2 : Option Nat) (l5 : Int32) (s0 : Int32) (σ : Hp) : Option (Int32 × Hp) :=
  if s0 = 0 then
    J18_getChars_c22 l2 s0 (fun x10 x11 τ12 =>
      (aI 2 τ12 (hst τ12 2) (-x10)).bind fun v13 =>
      (sI 2 τ12 l2 (x11 + (-1 : Int32)) v13).bind fun σ14 =>
      if (-9 : Int32) ≤ x10 then
        J18_getChars_c104  l2 (x11 + (-1 : Int32)) s0  σ14
      else
        (aI 2 σ14 (hst σ14 1) (-x10)).bind fun v16 =>
        (sI 2 σ14 l2 ((x11 + (-1 : Int32)) + (-1 : Int32)) v16).bind fun σ17 =>
        J18_getChars_c104  l2 ((x11 + (-1 : Int32)) + (-1 : Int32)) s0  σ17) FUEL (-l0) l5 σ
  else
    J18_getChars_c22 l2 s0 (fun x2 x3 τ4 =>
      (aI 2 τ4 (hst τ4 2) (-x2)).bind fun v5 =>
      (sI 2 τ4 l2 (x3 + (-1 : Int32)) v5).bind fun σ6 =>
      if (-9 : Int32) ≤ x2 then
        J18_getChars_c104  l2 (x3 + (-1 : Int32)) s0  σ6
      else
        (aI 2 σ6 (hst σ6 1) (-x2)).bind fun v8 =>
        (sI 2 σ6 l2 ((x3 + (-1 : Int32)) + (-1 : Int32)) v8).bind fun σ9 =>
        J18_getChars_c104  l2 ((x3 + (-1 : Int32)) + (-1 : Int32)) s0  σ9) FUEL l0 l5 σ
set_option maxHeartbeats 4000000 in
theorem jJ18_getChars_c12 {γ : GP} {σ0 : Hp} {q : (Int32 × Hp)} (hγ : GOK γ) (l0 : Int32) (l2 : Option Nat) (l5 : Int32)  (s0 : Int32) (σ : Hp) (h : J18_getChars_c12 l0 l2 l5 s0 σ = some q) : J γ mJ18_getChars (σ0, .inr (some (.int q.1)), q.2) σ 12 [(0, 1, .int l0), (2, 1, va_rf l2), (5, 1, .int l5)] [.int s0] := by
  unfold J18_getChars_c12 at h
  refine J_istore (i := 6) 14 [(6, 1, .int s0), (0, 1, .int l0), (2, 1, va_rf l2), (5, 1, .int l5)] dJ18_getChars_12 rfl (Nat.le_of_ble_eq_true rfl) rfl ?_
  refine J_iload (i := 6) 0 16 dJ18_getChars_14 rfl rfl ?_
  refine J_if_ne 22 19 dJ18_getChars_16 (by decide) rfl (fun c1 => ?_) (fun c1 => ?_)
  · rw [if_neg c1] at h
    refine J.pick [1, 2, 3, 0] rfl ?_
    refine jJ18_getChars_c22 hγ l2 s0 (fun x2 x3 τ4 h => ?_) FUEL l0 l5 σ h
    · refine J_aload_n (i := 2) 1 73 dJ18_getChars_72 rfl rfl rfl ?_
      refine J_iinc (i := 5) (v := x3 + (-1 : Int32)) 2 76 [(5, 1, .int (x3 + (-1 : Int32))), (0, 1, .int x2), (2, 1, va_rf l2), (6, 1, .int s0)] dJ18_getChars_73 rfl rfl (Nat.le_of_ble_eq_true rfl) (by rw [kic_m1]) rfl ?_
      refine J_iload (i := 5) 0 78 dJ18_getChars_76 rfl rfl ?_
      refine J_gets (k := 2) (by decide) q1726 81 dJ18_getChars_78 rfl ?_
      refine J_iload_n (i := 0) 1 82 dJ18_getChars_81 rfl rfl rfl ?_
      refine J_ineg 83 dJ18_getChars_82 rfl ?_
      obtain ⟨v5, hv5, h⟩ := some_of_bind h
      refine J_bald 84 dJ18_getChars_83 rfl hv5 ?_
      obtain ⟨σ6, hσ6, h⟩ := some_of_bind h
      refine J_bast 85 dJ18_getChars_84 rfl hσ6 ?_
      refine J_iload_n (i := 0) 1 86 dJ18_getChars_85 rfl rfl rfl ?_
      refine J_bipush 88 dJ18_getChars_86 rfl (-9 : Int32) kbp_m9 ?_
      refine J_icmp_ge 104 91 dJ18_getChars_88 (by decide) rfl (fun c7 => ?_) (fun c7 => ?_)
      · rw [if_pos c7] at h
        refine J.pick [2, 0, 3] rfl ?_
        exact jJ18_getChars_c104 hγ l2 (x3 + (-1 : Int32)) s0  σ6 h
      · rw [if_neg c7] at h
        refine J_aload_n (i := 2) 2 92 dJ18_getChars_91 rfl rfl rfl ?_
        refine J_iinc (i := 5) (v := (x3 + (-1 : Int32)) + (-1 : Int32)) 0 95 [(5, 1, .int ((x3 + (-1 : Int32)) + (-1 : Int32))), (0, 1, .int x2), (2, 1, va_rf l2), (6, 1, .int s0)] dJ18_getChars_92 rfl rfl (Nat.le_of_ble_eq_true rfl) (by rw [kic_m1]) rfl ?_
        refine J_iload (i := 5) 0 97 dJ18_getChars_95 rfl rfl ?_
        refine J_gets (k := 1) (by decide) q1728 100 dJ18_getChars_97 rfl ?_
        refine J_iload_n (i := 0) 1 101 dJ18_getChars_100 rfl rfl rfl ?_
        refine J_ineg 102 dJ18_getChars_101 rfl ?_
        obtain ⟨v8, hv8, h⟩ := some_of_bind h
        refine J_bald 103 dJ18_getChars_102 rfl hv8 ?_
        obtain ⟨σ9, hσ9, h⟩ := some_of_bind h
        refine J_bast 104 dJ18_getChars_103 rfl hσ9 ?_
        refine J.pick [2, 0, 3] rfl ?_
        exact jJ18_getChars_c104 hγ l2 ((x3 + (-1 : Int32)) + (-1 : Int32)) s0  σ9 h
  · rw [if_pos c1] at h
    refine J_iload_n (i := 0) 1 20 dJ18_getChars_19 rfl rfl rfl ?_
    refine J_ineg 21 dJ18_getChars_20 rfl ?_
    refine J_istore_n (i := 0) 22 [(0, 1, .int (-l0)), (6, 1, .int s0), (2, 1, va_rf l2), (5, 1, .int l5)] dJ18_getChars_21 rfl rfl (Nat.le_of_ble_eq_true rfl) rfl ?_
    refine J.pick [0, 2, 3, 1] rfl ?_
    refine jJ18_getChars_c22 hγ l2 s0 (fun x10 x11 τ12 h => ?_) FUEL (-l0) l5 σ h
    · refine J_aload_n (i := 2) 1 73 dJ18_getChars_72 rfl rfl rfl ?_
      refine J_iinc (i := 5) (v := x11 + (-1 : Int32)) 2 76 [(5, 1, .int (x11 + (-1 : Int32))), (0, 1, .int x10), (2, 1, va_rf l2), (6, 1, .int s0)] dJ18_getChars_73 rfl rfl (Nat.le_of_ble_eq_true rfl) (by rw [kic_m1]) rfl ?_
      refine J_iload (i := 5) 0 78 dJ18_getChars_76 rfl rfl ?_
      refine J_gets (k := 2) (by decide) q1726 81 dJ18_getChars_78 rfl ?_
      refine J_iload_n (i := 0) 1 82 dJ18_getChars_81 rfl rfl rfl ?_
      refine J_ineg 83 dJ18_getChars_82 rfl ?_
      obtain ⟨v13, hv13, h⟩ := some_of_bind h
      refine J_bald 84 dJ18_getChars_83 rfl hv13 ?_
      obtain ⟨σ14, hσ14, h⟩ := some_of_bind h
      refine J_bast 85 dJ18_getChars_84 rfl hσ14 ?_
      refine J_iload_n (i := 0) 1 86 dJ18_getChars_85 rfl rfl rfl ?_
      refine J_bipush 88 dJ18_getChars_86 rfl (-9 : Int32) kbp_m9 ?_
      refine J_icmp_ge 104 91 dJ18_getChars_88 (by decide) rfl (fun c15 => ?_) (fun c15 => ?_)
      · rw [if_pos c15] at h
        refine J.pick [2, 0, 3] rfl ?_
        exact jJ18_getChars_c104 hγ l2 (x11 + (-1 : Int32)) s0  σ14 h
      · rw [if_neg c15] at h
        refine J_aload_n (i := 2) 2 92 dJ18_getChars_91 rfl rfl rfl ?_
        refine J_iinc (i := 5) (v := (x11 + (-1 : Int32)) + (-1 : Int32)) 0 95 [(5, 1, .int ((x11 + (-1 : Int32)) + (-1 : Int32))), (0, 1, .int x10), (2, 1, va_rf l2), (6, 1, .int s0)] dJ18_getChars_92 rfl rfl (Nat.le_of_ble_eq_true rfl) (by rw [kic_m1]) rfl ?_
        refine J_iload (i := 5) 0 97 dJ18_getChars_95 rfl rfl ?_
        refine J_gets (k := 1) (by decide) q1728 100 dJ18_getChars_97 rfl ?_
        refine J_iload_n (i := 0) 1 101 dJ18_getChars_100 rfl rfl rfl ?_
        refine J_ineg 102 dJ18_getChars_101 rfl ?_
        obtain ⟨v16, hv16, h⟩ := some_of_bind h
        refine J_bald 103 dJ18_getChars_102 rfl hv16 ?_
        obtain ⟨σ17, hσ17, h⟩ := some_of_bind h
        refine J_bast 104 dJ18_getChars_103 rfl hσ17 ?_
        refine J.pick [2, 0, 3] rfl ?_
        exact jJ18_getChars_c104 hγ l2 ((x11 + (-1 : Int32)) + (-1 : Int32)) s0  σ17 h
def J18_getChars (l0 : Int32) (l1 : Int32) (l2 : Option Nat) (σ : Hp) : Option (Int32 × Hp) :=
  if 0 ≤ l0 then
    J18_getChars_c12  l0 l2 l1 (0 : Int32) σ
  else
    J18_getChars_c12  l0 l2 l1 (1 : Int32) σ
set_option maxHeartbeats 4000000 in
theorem sJ18_getChars {γ : GP} (hγ : GOK γ) (l0 : Int32) (l1 : Int32) (l2 : Option Nat) (σ : Hp) (q : (Int32 × Hp)) (h : J18_getChars l0 l1 l2 σ = some q) : Rn γ mJ18_getChars yJ18_getChars [.int l0, .int l1, va_rf l2] (σ, .inr (some (.int q.1)), q.2) := by
  refine J_m hγ ykJ18_getChars rfl [(1, .int l0), (1, .int l1), (1, va_rf l2)] (cats_i (cats_i (cats_r cats_nil))) (Nat.le_of_ble_eq_true rfl) ?_
  show J γ mJ18_getChars _ σ 0 [(0, 1, .int l0), (1, 1, .int l1), (2, 1, va_rf l2)] []
  unfold J18_getChars at h
  refine J_iload_n (i := 1) 1 1 dJ18_getChars_0 rfl rfl rfl ?_
  refine J_istore (i := 5) 3 [(5, 1, .int l1), (0, 1, .int l0), (1, 1, .int l1), (2, 1, va_rf l2)] dJ18_getChars_1 rfl (Nat.le_of_ble_eq_true rfl) rfl ?_
  refine J_iload_n (i := 0) 1 4 dJ18_getChars_3 rfl rfl rfl ?_
  refine J_if_ge 11 7 dJ18_getChars_4 (by decide) rfl (fun c1 => ?_) (fun c1 => ?_)
  · rw [if_pos c1] at h
    refine J_ic 12 dJ18_getChars_11 rfl (0 : Int32) kic_0 ?_
    refine J.pick [1, 3, 0] rfl ?_
    exact jJ18_getChars_c12 hγ l0 l2 l1 (0 : Int32) σ h
  · rw [if_neg c1] at h
    refine J_ic 8 dJ18_getChars_7 rfl (1 : Int32) kic_1 ?_
    refine J_goto 12 dJ18_getChars_8 (by decide) ?_
    refine J.pick [1, 3, 0] rfl ?_
    exact jJ18_getChars_c12 hγ l0 l2 l1 (1 : Int32) σ h
abbrev mJ15_getChars_2 : MP := (cJ15_getChars_2, "java/lang/StringUTF16", 7, (Option.some FieldType.int), 2, "getChars", [])
theorem ykJ15_getChars_2 : YK yJ15_getChars_2 mJ15_getChars_2 3 := ⟨q1735, q152, ⟨by decide, by decide⟩, by decide +kernel, Nat.le_of_ble_eq_true rfl, by decide, rfl, rfl⟩
def J15_getChars_2_c22 (l2 : Option Nat) (l6 : Int32) (k76 : Int32 → Int32 → Hp → Option (Int32 × Hp)) : Nat → Int32 → Int32 → Hp → Option (Int32 × Hp)
  | 0, _, _, _ => none
  | n + 1, l0, l5, σ =>
    if (-100 : Int32) < l0 then
      k76 l0 l5 σ
    else
      (aI 2 σ (hst σ 2) (((l0 / (100 : Int32)) * (100 : Int32)) - l0)).bind fun v2 =>
      (J15_putChar l2 (l5 + (-1 : Int32)) v2 σ).bind fun q3 =>
      (aI 2 q3 (hst q3 1) (((l0 / (100 : Int32)) * (100 : Int32)) - l0)).bind fun v4 =>
      (J15_putChar l2 ((l5 + (-1 : Int32)) + (-1 : Int32)) v4 q3).bind fun q5 =>
      J15_getChars_2_c22 l2 l6 k76 n (l0 / (100 : Int32)) ((l5 + (-1 : Int32)) + (-1 : Int32)) q5
set_option maxHeartbeats 4000000 in
theorem jJ15_getChars_2_c22 {γ : GP} {σ0 : Hp} {q : (Int32 × Hp)} (hγ : GOK γ) (l2 : Option Nat) (l6 : Int32) {k76 : Int32 → Int32 → Hp → Option (Int32 × Hp)} (hk76 : ∀ (l0 : Int32) (l5 : Int32) (σ : Hp), k76 l0 l5 σ = some q → J γ mJ15_getChars_2 (σ0, .inr (some (.int q.1)), q.2) σ 76 [(0, 1, .int l0), (2, 1, va_rf l2), (5, 1, .int l5), (6, 1, .int l6)] []) : ∀ (n : Nat) (l0 : Int32) (l5 : Int32) (σ : Hp), J15_getChars_2_c22 l2 l6 k76 n l0 l5 σ = some q → J γ mJ15_getChars_2 (σ0, .inr (some (.int q.1)), q.2) σ 22 [(0, 1, .int l0), (2, 1, va_rf l2), (5, 1, .int l5), (6, 1, .int l6)] [] := by
  intro n
  induction n with
  | zero => intro l0 l5 σ h; exact nomatch (show none = some q from h)
  | succ n ih =>
    intro l0 l5 σ h
    rw [J15_getChars_2_c22] at h
    refine J_iload_n (i := 0) 0 23 dJ15_getChars_2_22 rfl rfl rfl ?_
    refine J_bipush 25 dJ15_getChars_2_23 rfl (-100 : Int32) kbp_m100 ?_
    refine J_icmp_gt 76 28 dJ15_getChars_2_25 (by decide) rfl (fun c1 => ?_) (fun c1 => ?_)
    · rw [if_pos c1] at h
      exact hk76 l0 l5 σ h
    · rw [if_neg c1] at h
      refine J_iload_n (i := 0) 0 29 dJ15_getChars_2_28 rfl rfl rfl ?_
      refine J_bipush 31 dJ15_getChars_2_29 rfl (100 : Int32) kbp_100 ?_
      refine J_idiv 32 dJ15_getChars_2_31 rfl (by decide) ?_
      refine J_istore_n (i := 3) 33 [(3, 1, .int (l0 / (100 : Int32))), (0, 1, .int l0), (2, 1, va_rf l2), (5, 1, .int l5), (6, 1, .int l6)] dJ15_getChars_2_32 rfl rfl (Nat.le_of_ble_eq_true rfl) rfl ?_
      refine J_iload_n (i := 3) 0 34 dJ15_getChars_2_33 rfl rfl rfl ?_
      refine J_bipush 36 dJ15_getChars_2_34 rfl (100 : Int32) kbp_100 ?_
      refine J_imul 37 dJ15_getChars_2_36 rfl ?_
      refine J_iload_n (i := 0) 1 38 dJ15_getChars_2_37 rfl rfl rfl ?_
      refine J_isub 39 dJ15_getChars_2_38 rfl ?_
      refine J_istore (i := 4) 41 [(4, 1, .int (((l0 / (100 : Int32)) * (100 : Int32)) - l0)), (3, 1, .int (l0 / (100 : Int32))), (0, 1, .int l0), (2, 1, va_rf l2), (5, 1, .int l5), (6, 1, .int l6)] dJ15_getChars_2_39 rfl (Nat.le_of_ble_eq_true rfl) rfl ?_
      refine J_iload_n (i := 3) 1 42 dJ15_getChars_2_41 rfl rfl rfl ?_
      refine J_istore_n (i := 0) 43 [(0, 1, .int (l0 / (100 : Int32))), (4, 1, .int (((l0 / (100 : Int32)) * (100 : Int32)) - l0)), (3, 1, .int (l0 / (100 : Int32))), (2, 1, va_rf l2), (5, 1, .int l5), (6, 1, .int l6)] dJ15_getChars_2_42 rfl rfl (Nat.le_of_ble_eq_true rfl) rfl ?_
      refine J_aload_n (i := 2) 3 44 dJ15_getChars_2_43 rfl rfl rfl ?_
      refine J_iinc (i := 5) (v := l5 + (-1 : Int32)) 4 47 [(5, 1, .int (l5 + (-1 : Int32))), (0, 1, .int (l0 / (100 : Int32))), (4, 1, .int (((l0 / (100 : Int32)) * (100 : Int32)) - l0)), (3, 1, .int (l0 / (100 : Int32))), (2, 1, va_rf l2), (6, 1, .int l6)] dJ15_getChars_2_44 rfl rfl (Nat.le_of_ble_eq_true rfl) (by rw [kic_m1]) rfl ?_
      refine J_iload (i := 5) 0 49 dJ15_getChars_2_47 rfl rfl ?_
      refine J_gets (k := 2) (by decide) q1736 52 dJ15_getChars_2_49 rfl ?_
      refine J_iload (i := 4) 2 54 dJ15_getChars_2_52 rfl rfl ?_
      obtain ⟨v2, hv2, h⟩ := some_of_bind h
      refine J_bald 55 dJ15_getChars_2_54 rfl hv2 ?_
      obtain ⟨q3, hq3, h⟩ := some_of_bind h
      refine J_cSv 58 dJ15_getChars_2_55 rfl ykJ15_putChar (Or.inl q883) q884 (Nat.le_of_ble_eq_true rfl) cs_nil (by decide) [va_rf l2, .int (l5 + (-1 : Int32)), .int v2] rfl rfl (sJ15_putChar hγ l2 (l5 + (-1 : Int32)) v2 σ q3 hq3) ?_
      refine J_aload_n (i := 2) 4 59 dJ15_getChars_2_58 rfl rfl rfl ?_
      refine J_iinc (i := 5) (v := (l5 + (-1 : Int32)) + (-1 : Int32)) 0 62 [(5, 1, .int ((l5 + (-1 : Int32)) + (-1 : Int32))), (0, 1, .int (l0 / (100 : Int32))), (4, 1, .int (((l0 / (100 : Int32)) * (100 : Int32)) - l0)), (3, 1, .int (l0 / (100 : Int32))), (2, 1, va_rf l2), (6, 1, .int l6)] dJ15_getChars_2_59 rfl rfl (Nat.le_of_ble_eq_true rfl) (by rw [kic_m1]) rfl ?_
      refine J_iload (i := 5) 0 64 dJ15_getChars_2_62 rfl rfl ?_
      refine J_gets (k := 1) (by decide) q1737 67 dJ15_getChars_2_64 rfl ?_
      refine J_iload (i := 4) 2 69 dJ15_getChars_2_67 rfl rfl ?_
      obtain ⟨v4, hv4, h⟩ := some_of_bind h
      refine J_bald 70 dJ15_getChars_2_69 rfl hv4 ?_
      obtain ⟨q5, hq5, h⟩ := some_of_bind h
      refine J_cSv 73 dJ15_getChars_2_70 rfl ykJ15_putChar (Or.inl q883) q884 (Nat.le_of_ble_eq_true rfl) cs_nil (by decide) [va_rf l2, .int ((l5 + (-1 : Int32)) + (-1 : Int32)), .int v4] rfl rfl (sJ15_putChar hγ l2 ((l5 + (-1 : Int32)) + (-1 : Int32)) v4 q3 q5 hq5) ?_
      refine J_goto 22 dJ15_getChars_2_73 (by decide) ?_
      refine J.pick [1, 4, 0, 5] rfl ?_
      exact ih (l0 / (100 : Int32)) ((l5 + (-1 : Int32)) + (-1 : Int32)) q5 h
def J15_getChars_2_c112  (l2 : Option Nat) (l5 : Int32) (l6 : Int32)  (σ : Hp) : Option (Int32 × Hp) :=
  if l6 = 0 then
    some (l5, σ)
  else
    (J15_putChar l2 (l5 + (-1 : Int32)) (45 : Int32) σ).bind fun q2 =>
    some (l5 + (-1 : Int32), q2)
set_option maxHeartbeats 4000000 in
theorem jJ15_getChars_2_c112 {γ : GP} {σ0 : Hp} {q : (Int32 × Hp)} (hγ : GOK γ) (l2 : Option Nat) (l5 : Int32) (l6 : Int32)   (σ : Hp) (h : J15_getChars_2_c112 l2 l5 l6 σ = some q) : J γ mJ15_getChars_2 (σ0, .inr (some (.int q.1)), q.2) σ 112 [(2, 1, va_rf l2), (5, 1, .int l5), (6, 1, .int l6)] [] := by
  unfold J15_getChars_2_c112 at h
  refine J_iload (i := 6) 2 114 dJ15_getChars_2_112 rfl rfl ?_
  refine J_if_eq 128 117 dJ15_getChars_2_114 (by decide) rfl (fun c1 => ?_) (fun c1 => ?_)
  · rw [if_pos c1] at h
    refine J_iload (i := 5) 1 130 dJ15_getChars_2_128 rfl rfl ?_
    exact J_iret rfl dJ15_getChars_2_130 (retI h)
  · rw [if_neg c1] at h
    refine J_aload_n (i := 2) 0 118 dJ15_getChars_2_117 rfl rfl rfl ?_
    refine J_iinc (i := 5) (v := l5 + (-1 : Int32)) 1 121 [(5, 1, .int (l5 + (-1 : Int32))), (2, 1, va_rf l2), (6, 1, .int l6)] dJ15_getChars_2_118 rfl rfl (Nat.le_of_ble_eq_true rfl) (by rw [kic_m1]) rfl ?_
    refine J_iload (i := 5) 0 123 dJ15_getChars_2_121 rfl rfl ?_
    refine J_bipush 125 dJ15_getChars_2_123 rfl (45 : Int32) kbp_45 ?_
    obtain ⟨q2, hq2, h⟩ := some_of_bind h
    refine J_cSv 128 dJ15_getChars_2_125 rfl ykJ15_putChar (Or.inl q883) q884 (Nat.le_of_ble_eq_true rfl) cs_nil (by decide) [va_rf l2, .int (l5 + (-1 : Int32)), .int (45 : Int32)] rfl rfl (sJ15_putChar hγ l2 (l5 + (-1 : Int32)) (45 : Int32) σ q2 hq2) ?_
    refine J_iload (i := 5) 0 130 dJ15_getChars_2_128 rfl rfl ?_
    exact J_iret rfl dJ15_getChars_2_130 (retI h)
def J15_getChars_2_c12  (l0 : Int32) (l2 : Option Nat) (l5 : Int32) (s0 : Int32) (σ : Hp) : Option (Int32 × Hp) :=
  if s0 = 0 then
    J15_getChars_2_c22 l2 s0 (fun x10 x11 τ12 =>
      (aI 2 τ12 (hst τ12 2) (-x10)).bind fun v13 =>
      (J15_putChar l2 (x11 + (-1 : Int32)) v13 τ12).bind fun q14 =>
      if (-9 : Int32) ≤ x10 then
        J15_getChars_2_c112  l2 (x11 + (-1 : Int32)) s0  q14
      else
        (aI 2 q14 (hst q14 1) (-x10)).bind fun v16 =>
        (J15_putChar l2 ((x11 + (-1 : Int32)) + (-1 : Int32)) v16 q14).bind fun q17 =>
        J15_getChars_2_c112  l2 ((x11 + (-1 : Int32)) + (-1 : Int32)) s0  q17) FUEL (-l0) l5 σ
  else
    J15_getChars_2_c22 l2 s0 (fun x2 x3 τ4 =>
      (aI 2 τ4 (hst τ4 2) (-x2)).bind fun v5 =>
      (J15_putChar l2 (x3 + (-1 : Int32)) v5 τ4).bind fun q6 =>
      if (-9 : Int32) ≤ x2 then
        J15_getChars_2_c112  l2 (x3 + (-1 : Int32)) s0  q6
      else
        (aI 2 q6 (hst q6 1) (-x2)).bind fun v8 =>
        (J15_putChar l2 ((x3 + (-1 : Int32)) + (-1 : Int32)) v8 q6).bind fun q9 =>
        J15_getChars_2_c112  l2 ((x3 + (-1 : Int32)) + (-1 : Int32)) s0  q9) FUEL l0 l5 σ
set_option maxHeartbeats 4000000 in
theorem jJ15_getChars_2_c12 {γ : GP} {σ0 : Hp} {q : (Int32 × Hp)} (hγ : GOK γ) (l0 : Int32) (l2 : Option Nat) (l5 : Int32)  (s0 : Int32) (σ : Hp) (h : J15_getChars_2_c12 l0 l2 l5 s0 σ = some q) : J γ mJ15_getChars_2 (σ0, .inr (some (.int q.1)), q.2) σ 12 [(0, 1, .int l0), (2, 1, va_rf l2), (5, 1, .int l5)] [.int s0] := by
  unfold J15_getChars_2_c12 at h
  refine J_istore (i := 6) 14 [(6, 1, .int s0), (0, 1, .int l0), (2, 1, va_rf l2), (5, 1, .int l5)] dJ15_getChars_2_12 rfl (Nat.le_of_ble_eq_true rfl) rfl ?_
  refine J_iload (i := 6) 0 16 dJ15_getChars_2_14 rfl rfl ?_
  refine J_if_ne 22 19 dJ15_getChars_2_16 (by decide) rfl (fun c1 => ?_) (fun c1 => ?_)
  · rw [if_neg c1] at h
    refine J.pick [1, 2, 3, 0] rfl ?_
    refine jJ15_getChars_2_c22 hγ l2 s0 (fun x2 x3 τ4 h => ?_) FUEL l0 l5 σ h
    · refine J_aload_n (i := 2) 1 77 dJ15_getChars_2_76 rfl rfl rfl ?_
      refine J_iinc (i := 5) (v := x3 + (-1 : Int32)) 2 80 [(5, 1, .int (x3 + (-1 : Int32))), (0, 1, .int x2), (2, 1, va_rf l2), (6, 1, .int s0)] dJ15_getChars_2_77 rfl rfl (Nat.le_of_ble_eq_true rfl) (by rw [kic_m1]) rfl ?_
      refine J_iload (i := 5) 0 82 dJ15_getChars_2_80 rfl rfl ?_
      refine J_gets (k := 2) (by decide) q1736 85 dJ15_getChars_2_82 rfl ?_
      refine J_iload_n (i := 0) 1 86 dJ15_getChars_2_85 rfl rfl rfl ?_
      refine J_ineg 87 dJ15_getChars_2_86 rfl ?_
      obtain ⟨v5, hv5, h⟩ := some_of_bind h
      refine J_bald 88 dJ15_getChars_2_87 rfl hv5 ?_
      obtain ⟨q6, hq6, h⟩ := some_of_bind h
      refine J_cSv 91 dJ15_getChars_2_88 rfl ykJ15_putChar (Or.inl q883) q884 (Nat.le_of_ble_eq_true rfl) cs_nil (by decide) [va_rf l2, .int (x3 + (-1 : Int32)), .int v5] rfl rfl (sJ15_putChar hγ l2 (x3 + (-1 : Int32)) v5 τ4 q6 hq6) ?_
      refine J_iload_n (i := 0) 1 92 dJ15_getChars_2_91 rfl rfl rfl ?_
      refine J_bipush 94 dJ15_getChars_2_92 rfl (-9 : Int32) kbp_m9 ?_
      refine J_icmp_ge 112 97 dJ15_getChars_2_94 (by decide) rfl (fun c7 => ?_) (fun c7 => ?_)
      · rw [if_pos c7] at h
        refine J.pick [2, 0, 3] rfl ?_
        exact jJ15_getChars_2_c112 hγ l2 (x3 + (-1 : Int32)) s0  q6 h
      · rw [if_neg c7] at h
        refine J_aload_n (i := 2) 2 98 dJ15_getChars_2_97 rfl rfl rfl ?_
        refine J_iinc (i := 5) (v := (x3 + (-1 : Int32)) + (-1 : Int32)) 0 101 [(5, 1, .int ((x3 + (-1 : Int32)) + (-1 : Int32))), (0, 1, .int x2), (2, 1, va_rf l2), (6, 1, .int s0)] dJ15_getChars_2_98 rfl rfl (Nat.le_of_ble_eq_true rfl) (by rw [kic_m1]) rfl ?_
        refine J_iload (i := 5) 0 103 dJ15_getChars_2_101 rfl rfl ?_
        refine J_gets (k := 1) (by decide) q1737 106 dJ15_getChars_2_103 rfl ?_
        refine J_iload_n (i := 0) 1 107 dJ15_getChars_2_106 rfl rfl rfl ?_
        refine J_ineg 108 dJ15_getChars_2_107 rfl ?_
        obtain ⟨v8, hv8, h⟩ := some_of_bind h
        refine J_bald 109 dJ15_getChars_2_108 rfl hv8 ?_
        obtain ⟨q9, hq9, h⟩ := some_of_bind h
        refine J_cSv 112 dJ15_getChars_2_109 rfl ykJ15_putChar (Or.inl q883) q884 (Nat.le_of_ble_eq_true rfl) cs_nil (by decide) [va_rf l2, .int ((x3 + (-1 : Int32)) + (-1 : Int32)), .int v8] rfl rfl (sJ15_putChar hγ l2 ((x3 + (-1 : Int32)) + (-1 : Int32)) v8 q6 q9 hq9) ?_
        refine J.pick [2, 0, 3] rfl ?_
        exact jJ15_getChars_2_c112 hγ l2 ((x3 + (-1 : Int32)) + (-1 : Int32)) s0  q9 h
  · rw [if_pos c1] at h
    refine J_iload_n (i := 0) 1 20 dJ15_getChars_2_19 rfl rfl rfl ?_
    refine J_ineg 21 dJ15_getChars_2_20 rfl ?_
    refine J_istore_n (i := 0) 22 [(0, 1, .int (-l0)), (6, 1, .int s0), (2, 1, va_rf l2), (5, 1, .int l5)] dJ15_getChars_2_21 rfl rfl (Nat.le_of_ble_eq_true rfl) rfl ?_
    refine J.pick [0, 2, 3, 1] rfl ?_
    refine jJ15_getChars_2_c22 hγ l2 s0 (fun x10 x11 τ12 h => ?_) FUEL (-l0) l5 σ h
    · refine J_aload_n (i := 2) 1 77 dJ15_getChars_2_76 rfl rfl rfl ?_
      refine J_iinc (i := 5) (v := x11 + (-1 : Int32)) 2 80 [(5, 1, .int (x11 + (-1 : Int32))), (0, 1, .int x10), (2, 1, va_rf l2), (6, 1, .int s0)] dJ15_getChars_2_77 rfl rfl (Nat.le_of_ble_eq_true rfl) (by rw [kic_m1]) rfl ?_
      refine J_iload (i := 5) 0 82 dJ15_getChars_2_80 rfl rfl ?_
      refine J_gets (k := 2) (by decide) q1736 85 dJ15_getChars_2_82 rfl ?_
      refine J_iload_n (i := 0) 1 86 dJ15_getChars_2_85 rfl rfl rfl ?_
      refine J_ineg 87 dJ15_getChars_2_86 rfl ?_
      obtain ⟨v13, hv13, h⟩ := some_of_bind h
      refine J_bald 88 dJ15_getChars_2_87 rfl hv13 ?_
      obtain ⟨q14, hq14, h⟩ := some_of_bind h
      refine J_cSv 91 dJ15_getChars_2_88 rfl ykJ15_putChar (Or.inl q883) q884 (Nat.le_of_ble_eq_true rfl) cs_nil (by decide) [va_rf l2, .int (x11 + (-1 : Int32)), .int v13] rfl rfl (sJ15_putChar hγ l2 (x11 + (-1 : Int32)) v13 τ12 q14 hq14) ?_
      refine J_iload_n (i := 0) 1 92 dJ15_getChars_2_91 rfl rfl rfl ?_
      refine J_bipush 94 dJ15_getChars_2_92 rfl (-9 : Int32) kbp_m9 ?_
      refine J_icmp_ge 112 97 dJ15_getChars_2_94 (by decide) rfl (fun c15 => ?_) (fun c15 => ?_)
      · rw [if_pos c15] at h
        refine J.pick [2, 0, 3] rfl ?_
        exact jJ15_getChars_2_c112 hγ l2 (x11 + (-1 : Int32)) s0  q14 h
      · rw [if_neg c15] at h
        refine J_aload_n (i := 2) 2 98 dJ15_getChars_2_97 rfl rfl rfl ?_
        refine J_iinc (i := 5) (v := (x11 + (-1 : Int32)) + (-1 : Int32)) 0 101 [(5, 1, .int ((x11 + (-1 : Int32)) + (-1 : Int32))), (0, 1, .int x10), (2, 1, va_rf l2), (6, 1, .int s0)] dJ15_getChars_2_98 rfl rfl (Nat.le_of_ble_eq_true rfl) (by rw [kic_m1]) rfl ?_
        refine J_iload (i := 5) 0 103 dJ15_getChars_2_101 rfl rfl ?_
        refine J_gets (k := 1) (by decide) q1737 106 dJ15_getChars_2_103 rfl ?_
        refine J_iload_n (i := 0) 1 107 dJ15_getChars_2_106 rfl rfl rfl ?_
        refine J_ineg 108 dJ15_getChars_2_107 rfl ?_
        obtain ⟨v16, hv16, h⟩ := some_of_bind h
        refine J_bald 109 dJ15_getChars_2_108 rfl hv16 ?_
        obtain ⟨q17, hq17, h⟩ := some_of_bind h
        refine J_cSv 112 dJ15_getChars_2_109 rfl ykJ15_putChar (Or.inl q883) q884 (Nat.le_of_ble_eq_true rfl) cs_nil (by decide) [va_rf l2, .int ((x11 + (-1 : Int32)) + (-1 : Int32)), .int v16] rfl rfl (sJ15_putChar hγ l2 ((x11 + (-1 : Int32)) + (-1 : Int32)) v16 q14 q17 hq17) ?_
        refine J.pick [2, 0, 3] rfl ?_
        exact jJ15_getChars_2_c112 hγ l2 ((x11 + (-1 : Int32)) + (-1 : Int32)) s0  q17 h
def J15_getChars_2 (l0 : Int32) (l1 : Int32) (l2 : Option Nat) (σ : Hp) : Option (Int32 × Hp) :=
  if 0 ≤ l0 then
    J15_getChars_2_c12  l0 l2 l1 (0 : Int32) σ
  else
    J15_getChars_2_c12  l0 l2 l1 (1 : Int32) σ
set_option maxHeartbeats 4000000 in
theorem sJ15_getChars_2 {γ : GP} (hγ : GOK γ) (l0 : Int32) (l1 : Int32) (l2 : Option Nat) (σ : Hp) (q : (Int32 × Hp)) (h : J15_getChars_2 l0 l1 l2 σ = some q) : Rn γ mJ15_getChars_2 yJ15_getChars_2 [.int l0, .int l1, va_rf l2] (σ, .inr (some (.int q.1)), q.2) := by
  refine J_m hγ ykJ15_getChars_2 rfl [(1, .int l0), (1, .int l1), (1, va_rf l2)] (cats_i (cats_i (cats_r cats_nil))) (Nat.le_of_ble_eq_true rfl) ?_
  show J γ mJ15_getChars_2 _ σ 0 [(0, 1, .int l0), (1, 1, .int l1), (2, 1, va_rf l2)] []
  unfold J15_getChars_2 at h
  refine J_iload_n (i := 1) 1 1 dJ15_getChars_2_0 rfl rfl rfl ?_
  refine J_istore (i := 5) 3 [(5, 1, .int l1), (0, 1, .int l0), (1, 1, .int l1), (2, 1, va_rf l2)] dJ15_getChars_2_1 rfl (Nat.le_of_ble_eq_true rfl) rfl ?_
  refine J_iload_n (i := 0) 1 4 dJ15_getChars_2_3 rfl rfl rfl ?_
  refine J_if_ge 11 7 dJ15_getChars_2_4 (by decide) rfl (fun c1 => ?_) (fun c1 => ?_)
  · rw [if_pos c1] at h
    refine J_ic 12 dJ15_getChars_2_11 rfl (0 : Int32) kic_0 ?_
    refine J.pick [1, 3, 0] rfl ?_
    exact jJ15_getChars_2_c12 hγ l0 l2 l1 (0 : Int32) σ h
  · rw [if_neg c1] at h
    refine J_ic 8 dJ15_getChars_2_7 rfl (1 : Int32) kic_1 ?_
    refine J_goto 12 dJ15_getChars_2_8 (by decide) ?_
    refine J.pick [1, 3, 0] rfl ?_
    exact jJ15_getChars_2_c12 hγ l0 l2 l1 (1 : Int32) σ h
abbrev mJ15_getChars : MP := (cJ15_getChars, "java/lang/StringUTF16", 5, (Option.some FieldType.int), 4, "getChars", [])
theorem ykJ15_getChars : YK yJ15_getChars mJ15_getChars 4 := ⟨q1732, q152, ⟨by decide, by decide⟩, by decide +kernel, Nat.le_of_ble_eq_true rfl, by decide, rfl, rfl⟩
def J15_getChars (l0 : Int32) (l1 : Int32) (l2 : Int32) (l3 : Option Nat) (σ : Hp) : Option (Int32 × Hp) :=
  (J15_checkBoundsBeginEnd l1 l2 l3 σ).bind fun q1 =>
  (J15_getChars_2 l0 l2 l3 q1).bind fun q2 =>
  none
set_option maxHeartbeats 4000000 in
theorem sJ15_getChars {γ : GP} (hγ : GOK γ) (l0 : Int32) (l1 : Int32) (l2 : Int32) (l3 : Option Nat) (σ : Hp) (q : (Int32 × Hp)) (h : J15_getChars l0 l1 l2 l3 σ = some q) : Rn γ mJ15_getChars yJ15_getChars [.int l0, .int l1, .int l2, va_rf l3] (σ, .inr (some (.int q.1)), q.2) := by
  refine J_m hγ ykJ15_getChars rfl [(1, .int l0), (1, .int l1), (1, .int l2), (1, va_rf l3)] (cats_i (cats_i (cats_i (cats_r cats_nil)))) (Nat.le_of_ble_eq_true rfl) ?_
  show J γ mJ15_getChars _ σ 0 [(0, 1, .int l0), (1, 1, .int l1), (2, 1, .int l2), (3, 1, va_rf l3)] []
  unfold J15_getChars at h
  refine J_iload_n (i := 1) 1 1 dJ15_getChars_0 rfl rfl rfl ?_
  refine J_iload_n (i := 2) 2 2 dJ15_getChars_1 rfl rfl rfl ?_
  refine J_aload_n (i := 3) 3 3 dJ15_getChars_2 rfl rfl rfl ?_
  obtain ⟨q1, hq1, h⟩ := some_of_bind h
  refine J_cSv 6 dJ15_getChars_3 rfl ykJ15_checkBoundsBeginEnd (Or.inl q1688) q1689 (Nat.le_of_ble_eq_true rfl) cs_nil (by decide) [.int l1, .int l2, va_rf l3] rfl rfl (sJ15_checkBoundsBeginEnd hγ l1 l2 l3 σ q1 hq1) ?_
  refine J_iload_n (i := 0) 0 7 dJ15_getChars_6 rfl rfl rfl ?_
  refine J_iload_n (i := 2) 2 8 dJ15_getChars_7 rfl rfl rfl ?_
  refine J_aload_n (i := 3) 3 9 dJ15_getChars_8 rfl rfl rfl ?_
  obtain ⟨q2, hq2, h⟩ := some_of_bind h
  refine J_cSi 12 dJ15_getChars_9 rfl ykJ15_getChars_2 (Or.inl q1733) q1734 (Nat.le_of_ble_eq_true rfl) cs_nil (by decide) [.int l0, .int l2, va_rf l3] rfl rfl (sJ15_getChars_2 hγ l0 l2 l3 q1 q2 hq2) ?_
  refine J_istore (i := 4) 14 [(4, 1, .int q2.1), (0, 1, .int l0), (1, 1, .int l1), (2, 1, .int l2), (3, 1, va_rf l3)] dJ15_getChars_12 rfl (Nat.le_of_ble_eq_true rfl) rfl ?_
  cases h
abbrev mJ13_append_3 : MP := (cJ13_append_3, "java/lang/AbstractStringBuilder", 4, (Option.some (FieldType.object "java/lang/AbstractStringBuilder")), 5, "append", [])
theorem ykJ13_append_3 : YK yJ13_append_3 mJ13_append_3 1 := ⟨q1719, q150, ⟨by decide, by decide⟩, by decide +kernel, Nat.le_of_ble_eq_true rfl, by decide, rfl, rfl⟩
def J13_append_3_c48  (l0 : Option Nat) (l3 : Int32)  (σ : Hp) : Option (Option Nat × Hp) :=
  (pI σ l0 [35] 3 l3).bind fun σ1 =>
  some (l0, σ1)
set_option maxHeartbeats 4000000 in
theorem jJ13_append_3_c48 {γ : GP} {σ0 : Hp} {q : (Option Nat × Hp)} (hγ : GOK γ) (l0 : Option Nat) (l3 : Int32)   (σ : Hp) (h : J13_append_3_c48 l0 l3 σ = some q) : J γ mJ13_append_3 (σ0, .inr (some (va_rf q.1)), q.2) σ 48 [(0, 1, va_rf l0), (3, 1, .int l3)] [] := by
  unfold J13_append_3_c48 at h
  refine J_aload_n (i := 0) 0 49 dJ13_append_3_48 rfl rfl rfl ?_
  refine J_iload_n (i := 3) 1 50 dJ13_append_3_49 rfl rfl rfl ?_
  obtain ⟨σ1, hσ1, h⟩ := some_of_bind h
  refine J_pI 53 dJ13_append_3_50 rfl pk_s_405 hσ1 ?_
  refine J_aload_n (i := 0) 0 54 dJ13_append_3_53 rfl rfl rfl ?_
  exact J_aret rfl (Or.inl ⟨_, rfl⟩) dJ13_append_3_54 (retR h)
def J13_append_3 (l0 : Option Nat) (l1 : Int32) (σ : Hp) : Option (Option Nat × Hp) :=
  (gI σ l0 [35] 3).bind fun v1 =>
  (J18_stringSize l1 σ).bind fun q2 =>
  (cT q2.2 l0 35).bind fun b4 =>
  (J13_ensureCapacityInternal l0 (v1 + q2.1) q2.2).bind fun q3 =>
  (cT q3 l0 35).bind fun b6 =>
  (J13_isLatin1 l0  q3).bind fun q5 =>
  if q5.1 = 0 then
    (gR q5.2 l0 [35] 0).bind fun v8 =>
    (J15_getChars l1 v1 (v1 + q2.1) v8 q5.2).bind fun q9 =>
    J13_append_3_c48  l0 (v1 + q2.1)  q9.2
  else
    (gR q5.2 l0 [35] 0).bind fun v10 =>
    (J18_getChars l1 (v1 + q2.1) v10 q5.2).bind fun q11 =>
    J13_append_3_c48  l0 (v1 + q2.1)  q11.2
set_option maxHeartbeats 4000000 in
theorem sJ13_append_3 {γ : GP} (hγ : GOK γ) (l0 : Option Nat) (l1 : Int32) (σ : Hp) (q : (Option Nat × Hp)) (h : J13_append_3 l0 l1 σ = some q) : Rn γ mJ13_append_3 yJ13_append_3 [va_rf l0, .int l1] (σ, .inr (some (va_rf q.1)), q.2) := by
  refine J_m hγ ykJ13_append_3 rfl [(1, va_rf l0), (1, .int l1)] (cats_r (cats_i cats_nil)) (Nat.le_of_ble_eq_true rfl) ?_
  show J γ mJ13_append_3 _ σ 0 [(0, 1, va_rf l0), (1, 1, .int l1)] []
  unfold J13_append_3 at h
  refine J_aload_n (i := 0) 0 1 dJ13_append_3_0 rfl rfl rfl ?_
  obtain ⟨v1, hv1, h⟩ := some_of_bind h
  refine J_gI 4 dJ13_append_3_1 rfl fk_s_375 hv1 ?_
  refine J_istore_n (i := 2) 5 [(2, 1, .int v1), (0, 1, va_rf l0), (1, 1, .int l1)] dJ13_append_3_4 rfl rfl (Nat.le_of_ble_eq_true rfl) rfl ?_
  refine J_iload_n (i := 2) 0 6 dJ13_append_3_5 rfl rfl rfl ?_
  refine J_iload_n (i := 1) 2 7 dJ13_append_3_6 rfl rfl rfl ?_
  obtain ⟨q2, hq2, h⟩ := some_of_bind h
  refine J_cSi 10 dJ13_append_3_7 rfl ykJ18_stringSize (Or.inl q1720) q1721 (Nat.le_of_ble_eq_true rfl) (cs_int cs_nil) (by decide) [.int l1] rfl rfl (sJ18_stringSize hγ l1 σ q2 hq2) ?_
  refine J_iadd 11 dJ13_append_3_10 rfl ?_
  refine J_istore_n (i := 3) 12 [(3, 1, .int (v1 + q2.1)), (2, 1, .int v1), (0, 1, va_rf l0), (1, 1, .int l1)] dJ13_append_3_11 rfl rfl (Nat.le_of_ble_eq_true rfl) rfl ?_
  refine J_aload_n (i := 0) 2 13 dJ13_append_3_12 rfl rfl rfl ?_
  refine J_iload_n (i := 3) 0 14 dJ13_append_3_13 rfl rfl rfl ?_
  obtain ⟨b4, hb4, h⟩ := some_of_bind h
  obtain ⟨q3, hq3, h⟩ := some_of_bind h
  refine J_cWv 17 dJ13_append_3_14 rfl ykJ13_ensureCapacityInternal (Or.inl q822) q824 (Nat.le_of_ble_eq_true rfl) cs_nil (by decide) [.int (v1 + q2.1)] (RC.one hb4 (by decide) rfl qp0) rfl rfl (sJ13_ensureCapacityInternal hγ l0 (v1 + q2.1) q2.2 q3 hq3) ?_
  refine J_aload_n (i := 0) 2 18 dJ13_append_3_17 rfl rfl rfl ?_
  obtain ⟨b6, hb6, h⟩ := some_of_bind h
  obtain ⟨q5, hq5, h⟩ := some_of_bind h
  refine J_cWi 21 dJ13_append_3_18 rfl ykJ13_isLatin1 (Or.inl q851) q852 (Nat.le_of_ble_eq_true rfl) cs_nil (by decide) [] (RC.one hb6 (by decide) rfl q854) rfl rfl (sJ13_isLatin1 hγ l0  q3 q5 hq5) ?_
  refine J_if_eq 37 24 dJ13_append_3_21 (by decide) rfl (fun c7 => ?_) (fun c7 => ?_)
  · rw [if_pos c7] at h
    refine J_iload_n (i := 1) 3 38 dJ13_append_3_37 rfl rfl rfl ?_
    refine J_iload_n (i := 2) 1 39 dJ13_append_3_38 rfl rfl rfl ?_
    refine J_iload_n (i := 3) 0 40 dJ13_append_3_39 rfl rfl rfl ?_
    refine J_aload_n (i := 0) 2 41 dJ13_append_3_40 rfl rfl rfl ?_
    obtain ⟨v8, hv8, h⟩ := some_of_bind h
    refine J_gR 44 dJ13_append_3_41 rfl fk_s_374 hv8 ?_
    obtain ⟨q9, hq9, h⟩ := some_of_bind h
    refine J_cSi 47 dJ13_append_3_44 rfl ykJ15_getChars (Or.inl q1730) q1731 (Nat.le_of_ble_eq_true rfl) cs_nil (by decide) [.int l1, .int v1, .int (v1 + q2.1), va_rf v8] rfl rfl (sJ15_getChars hγ l1 v1 (v1 + q2.1) v8 q5.2 q9 hq9) ?_
    refine J_popi 48 dJ13_append_3_47 rfl ?_
    refine J.pick [2, 0] rfl ?_
    exact jJ13_append_3_c48 hγ l0 (v1 + q2.1)  q9.2 h
  · rw [if_neg c7] at h
    refine J_iload_n (i := 1) 3 25 dJ13_append_3_24 rfl rfl rfl ?_
    refine J_iload_n (i := 3) 0 26 dJ13_append_3_25 rfl rfl rfl ?_
    refine J_aload_n (i := 0) 2 27 dJ13_append_3_26 rfl rfl rfl ?_
    obtain ⟨v10, hv10, h⟩ := some_of_bind h
    refine J_gR 30 dJ13_append_3_27 rfl fk_s_374 hv10 ?_
    obtain ⟨q11, hq11, h⟩ := some_of_bind h
    refine J_cSi 33 dJ13_append_3_30 rfl ykJ18_getChars (Or.inl q1723) q1724 (Nat.le_of_ble_eq_true rfl) cs_nil (by decide) [.int l1, .int (v1 + q2.1), va_rf v10] rfl rfl (sJ18_getChars hγ l1 (v1 + q2.1) v10 q5.2 q11 hq11) ?_
    refine J_popi 34 dJ13_append_3_33 rfl ?_
    refine J_goto 48 dJ13_append_3_34 (by decide) ?_
    refine J.pick [2, 0] rfl ?_
    exact jJ13_append_3_c48 hγ l0 (v1 + q2.1)  q11.2 h
abbrev mJ14_append_3 : MP := (cJ14_append_3, "java/lang/StringBuilder", 2, (Option.some (FieldType.object "java/lang/StringBuilder")), 6, "append", [])
theorem ykJ14_append_3 : YK yJ14_append_3 mJ14_append_3 1 := ⟨q1716, q151, ⟨by decide, by decide⟩, by decide +kernel, Nat.le_of_ble_eq_true rfl, by decide, rfl, rfl⟩
def J14_append_3 (l0 : Option Nat) (l1 : Int32) (σ : Hp) : Option (Option Nat × Hp) :=
  (cT σ l0 35).bind fun b2 =>
  (J13_append_3 l0 l1 σ).bind fun q1 =>
  some (l0, q1.2)
set_option maxHeartbeats 4000000 in
theorem sJ14_append_3 {γ : GP} (hγ : GOK γ) (l0 : Option Nat) (l1 : Int32) (σ : Hp) (q : (Option Nat × Hp)) (h : J14_append_3 l0 l1 σ = some q) : Rn γ mJ14_append_3 yJ14_append_3 [va_rf l0, .int l1] (σ, .inr (some (va_rf q.1)), q.2) := by
  refine J_m hγ ykJ14_append_3 rfl [(1, va_rf l0), (1, .int l1)] (cats_r (cats_i cats_nil)) (Nat.le_of_ble_eq_true rfl) ?_
  show J γ mJ14_append_3 _ σ 0 [(0, 1, va_rf l0), (1, 1, .int l1)] []
  unfold J14_append_3 at h
  refine J_aload_n (i := 0) 0 1 dJ14_append_3_0 rfl rfl rfl ?_
  refine J_iload_n (i := 1) 1 2 dJ14_append_3_1 rfl rfl rfl ?_
  obtain ⟨b2, hb2, h⟩ := some_of_bind h
  obtain ⟨q1, hq1, h⟩ := some_of_bind h
  refine J_cPr 5 dJ14_append_3_2 rfl ykJ13_append_3 q1717 q3004 q814 q1718 (by decide) (Nat.le_of_ble_eq_true rfl) cs_nil (by decide) [.int l1] hb2 (by decide) rfl rfl rfl (sJ13_append_3 hγ l0 l1 σ q1 hq1) ?_
  refine J_popr 6 dJ14_append_3_5 rfl ?_
  refine J_aload_n (i := 0) 0 7 dJ14_append_3_6 rfl rfl rfl ?_
  exact J_aret rfl (Or.inl ⟨_, rfl⟩) dJ14_append_3_7 (retR h)
abbrev mJ12_valueOf : MP := (cJ12_valueOf, "java/lang/String", 1, (Option.some (FieldType.object "java/lang/String")), 9, "valueOf", [])
theorem ykJ12_valueOf : YK yJ12_valueOf mJ12_valueOf 1 := ⟨q1746, q148, ⟨by decide, by decide⟩, by decide +kernel, Nat.le_of_ble_eq_true rfl, by decide, rfl, rfl⟩
def J12_valueOf (l0 : Option Nat) (σ : Hp) : Option (Option Nat × Hp) :=
  if l0 = none then
    some ((hst σ 138), σ)
  else
    (vText2 l0  σ).bind fun q2 =>
    some (q2.1, q2.2)
set_option maxHeartbeats 4000000 in
theorem sJ12_valueOf {γ : GP} (hγ : GOK γ) (l0 : Option Nat) (σ : Hp) (q : (Option Nat × Hp)) (h : J12_valueOf l0 σ = some q) : Rn γ mJ12_valueOf yJ12_valueOf [va_rf l0] (σ, .inr (some (va_rf q.1)), q.2) := by
  refine J_m hγ ykJ12_valueOf rfl [(1, va_rf l0)] (cats_r cats_nil) (Nat.le_of_ble_eq_true rfl) ?_
  show J γ mJ12_valueOf _ σ 0 [(0, 1, va_rf l0)] []
  unfold J12_valueOf at h
  refine J_aload_n (i := 0) 0 1 dJ12_valueOf_0 rfl rfl rfl ?_
  refine J_ifnonnull 10 4 dJ12_valueOf_1 (by decide) rfl (fun c1 => ?_) (fun c1 => ?_)
  · rw [if_neg c1] at h
    refine J_aload_n (i := 0) 0 11 dJ12_valueOf_10 rfl rfl rfl ?_
    obtain ⟨q2, hq2, h⟩ := some_of_bind h
    refine J_cUr (na := 0) 14 dJ12_valueOf_11 rfl q1749 q1751 q1748 ⟨by decide, by decide, by decide +kernel⟩ (show (8) + 1 ≤ 9 by omega) cs_nil (by decide) [] rfl rfl (svText2 hγ l0  σ q2 hq2) ?_
    exact J_aret rfl (Or.inl ⟨_, rfl⟩) dJ12_valueOf_14 (retR h)
  · rw [if_pos c1] at h
    refine J_ldcwS (k := 138) (tx := "null") (show (138, "java/lang/String", 1005, "null") ∈ strl by decide) 7 dJ12_valueOf_4 rfl ?_
    refine J_goto 14 dJ12_valueOf_7 (by decide) ?_
    exact J_aret rfl (Or.inl ⟨_, rfl⟩) dJ12_valueOf_14 (retR h)
abbrev mJ14_append_4 : MP := (cJ14_append_4, "java/lang/StringBuilder", 2, (Option.some (FieldType.object "java/lang/StringBuilder")), 11, "append", [])
theorem ykJ14_append_4 : YK yJ14_append_4 mJ14_append_4 1 := ⟨q1743, q151, ⟨by decide, by decide⟩, by decide +kernel, Nat.le_of_ble_eq_true rfl, by decide, rfl, rfl⟩
def J14_append_4 (l0 : Option Nat) (l1 : Option Nat) (σ : Hp) : Option (Option Nat × Hp) :=
  (J12_valueOf l1 σ).bind fun q1 =>
  (cT q1.2 l0 35).bind fun b3 =>
  (J14_append_2 l0 q1.1 q1.2).bind fun q2 =>
  some (q2.1, q2.2)
set_option maxHeartbeats 4000000 in
theorem sJ14_append_4 {γ : GP} (hγ : GOK γ) (l0 : Option Nat) (l1 : Option Nat) (σ : Hp) (q : (Option Nat × Hp)) (h : J14_append_4 l0 l1 σ = some q) : Rn γ mJ14_append_4 yJ14_append_4 [va_rf l0, va_rf l1] (σ, .inr (some (va_rf q.1)), q.2) := by
  refine J_m hγ ykJ14_append_4 rfl [(1, va_rf l0), (1, va_rf l1)] (cats_r (cats_r cats_nil)) (Nat.le_of_ble_eq_true rfl) ?_
  show J γ mJ14_append_4 _ σ 0 [(0, 1, va_rf l0), (1, 1, va_rf l1)] []
  unfold J14_append_4 at h
  refine J_aload_n (i := 0) 0 1 dJ14_append_4_0 rfl rfl rfl ?_
  refine J_aload_n (i := 1) 1 2 dJ14_append_4_1 rfl rfl rfl ?_
  obtain ⟨q1, hq1, h⟩ := some_of_bind h
  refine J_cSr 5 dJ14_append_4_2 rfl ykJ12_valueOf (Or.inl q1744) q1745 (Nat.le_of_ble_eq_true rfl) (cs_rf cs_nil) (by decide) [va_rf l1] rfl rfl (sJ12_valueOf hγ l1 σ q1 hq1) ?_
  obtain ⟨b3, hb3, h⟩ := some_of_bind h
  obtain ⟨q2, hq2, h⟩ := some_of_bind h
  refine J_cVr 8 dJ14_append_4_5 rfl ykJ14_append_2 (Or.inl q1803) q1675 q1676 (Nat.le_of_ble_eq_true rfl) cs_nil (by decide) [va_rf q1.1] hb3 (by decide) rfl rfl rfl (sJ14_append_2 hγ l0 q1.1 q1.2 q2 hq2) ?_
  exact J_aret rfl (Or.inl ⟨_, rfl⟩) dJ14_append_4_8 (retR h)
abbrev mX0_report : MP := (cX0_report, "MissCurves", 4, (Option.some FieldType.int), 12, "report", [])
theorem ykX0_report : YK yX0_report mX0_report 1 := ⟨q1672, q128, ⟨by decide, by decide⟩, by decide +kernel, Nat.le_of_ble_eq_true rfl, by decide, rfl, rfl⟩
theorem pk_s_412 {nm9 : String} : POK "MissCurves" nm9 94 [0] 19 (.object "java/lang/String") := POK.one (by decide) rfl (Nat.le_of_ble_eq_true rfl) (Or.inl ⟨_, q403, Or.inl rfl⟩) rfl (by decide +kernel) (Or.inl rfl)
theorem fk_s_413 : FOK "MissCurves" 94 [0] 19 isR := FOK.one (by decide) rfl (Nat.le_of_ble_eq_true rfl) (Or.inl ⟨_, q403, Or.inl rfl⟩) rfl
def X0_report_c45 (k24 : Int32 → Hp → Option (Int32 × Hp)) (k97 : Hp → Option (Int32 × Hp)) (l0 : Option Nat) (l2 : Option Nat) (l3 : Int32) (s0 : Option Nat) (s1 : Option Nat) (σ : Hp) : Option (Int32 × Hp) :=
  (cT σ s0 35).bind fun b2 =>
  (J14_append_2 s0 s1 σ).bind fun q1 =>
  (some (hsz q1.2)).bind fun b4 =>
  (J14_init (some (hsz q1.2))  (wN q1.2 35 0 4)).bind fun q3 =>
  (gR q3 l0 [0] 17).bind fun v5 =>
  (aI 0 q3 v5 l3).bind fun v6 =>
  (cT q3 (some (hsz q1.2)) 35).bind fun b8 =>
  (J14_append_3 (some (hsz q1.2)) v6 q3).bind fun q7 =>
  (cT q7.2 q7.1 35).bind fun b10 =>
  (J14_append_2 q7.1 (hst q7.2 110) q7.2).bind fun q9 =>
  (gR q9.2 l0 [0] 16).bind fun v11 =>
  (gR q9.2 l0 [0] 17).bind fun v12 =>
  (aI 0 q9.2 v12 l3).bind fun v13 =>
  (aI 0 q9.2 v11 v13).bind fun v14 =>
  (cT q9.2 q9.1 35).bind fun b16 =>
  (J14_append_3 q9.1 v14 q9.2).bind fun q15 =>
  (cT q15.2 q15.1 35).bind fun b18 =>
  (J14_toString q15.1  q15.2).bind fun q17 =>
  (cT q17.2 q1.1 35).bind fun b20 =>
  (J14_append_2 q1.1 q17.1 q17.2).bind fun q19 =>
  k24 (l3 + (1 : Int32)) q19.2
set_option maxHeartbeats 4000000 in
theorem jX0_report_c45 {γ : GP} {σ0 : Hp} {q : (Int32 × Hp)} (hγ : GOK γ) (l0 : Option Nat) (l2 : Option Nat) (l3 : Int32) {k24 : Int32 → Hp → Option (Int32 × Hp)} {k97 : Hp → Option (Int32 × Hp)} (hk24 : ∀ (l3 : Int32) (σ : Hp), k24 l3 σ = some q → J γ mX0_report (σ0, .inr (some (.int q.1)), q.2) σ 24 [(0, 1, va_rf l0), (2, 1, va_rf l2), (3, 1, .int l3)] []) (hk97 : ∀  (σ : Hp), k97  σ = some q → J γ mX0_report (σ0, .inr (some (.int q.1)), q.2) σ 97 [(0, 1, va_rf l0), (2, 1, va_rf l2)] []) (s0 : Option Nat) (s1 : Option Nat) (σ : Hp) (h : X0_report_c45 k24 k97 l0 l2 l3 s0 s1 σ = some q) : J γ mX0_report (σ0, .inr (some (.int q.1)), q.2) σ 45 [(0, 1, va_rf l0), (2, 1, va_rf l2), (3, 1, .int l3)] [va_rf s1, va_rf s0] := by
  unfold X0_report_c45 at h
  obtain ⟨b2, hb2, h⟩ := some_of_bind h
  obtain ⟨q1, hq1, h⟩ := some_of_bind h
  refine J_cVr 48 dX0_report_45 rfl ykJ14_append_2 (Or.inl q1674) q1675 q1676 (Nat.le_of_ble_eq_true rfl) cs_nil (by decide) [va_rf s1] hb2 (by decide) rfl rfl rfl (sJ14_append_2 hγ s0 s1 σ q1 hq1) ?_
  refine J_new (c9 := 35) (nsl := 4) rfl (by decide) (by decide +kernel) q784 q785 q151 51 dX0_report_48 rfl ?_
  refine J_dupr 52 dX0_report_51 rfl ?_
  obtain ⟨b4, hb4, h⟩ := some_of_bind h
  obtain ⟨q3, hq3, h⟩ := some_of_bind h
  refine J_cI 55 dX0_report_52 rfl ykJ14_init rfl (Or.inl q786) q787 rfl (Nat.le_of_ble_eq_true rfl) (cs_rf (cs_rf cs_nil)) (by decide) [] hb4 rfl rfl (sJ14_init hγ (some (hsz q1.2))  (wN q1.2 35 0 4) q3 hq3) ?_
  refine J_aload_n (i := 0) 0 56 dX0_report_55 rfl rfl rfl ?_
  obtain ⟨v5, hv5, h⟩ := some_of_bind h
  refine J_gR 59 dX0_report_56 rfl fk_z_261 hv5 ?_
  refine J_iload_n (i := 3) 2 60 dX0_report_59 rfl rfl rfl ?_
  obtain ⟨v6, hv6, h⟩ := some_of_bind h
  refine J_iald 61 dX0_report_60 rfl hv6 ?_
  obtain ⟨b8, hb8, h⟩ := some_of_bind h
  obtain ⟨q7, hq7, h⟩ := some_of_bind h
  refine J_cVr 64 dX0_report_61 rfl ykJ14_append_3 (Or.inl q1713) q1714 q1715 (Nat.le_of_ble_eq_true rfl) (cs_rf cs_nil) (by decide) [.int v6] hb8 (by decide) rfl rfl rfl (sJ14_append_3 hγ (some (hsz q1.2)) v6 q3 q7 hq7) ?_
  refine J_ldcwS (k := 110) (tx := ":") (show (110, "MissCurves", 398, ":") ∈ strl by decide) 67 dX0_report_64 rfl ?_
  obtain ⟨b10, hb10, h⟩ := some_of_bind h
  obtain ⟨q9, hq9, h⟩ := some_of_bind h
  refine J_cVr 70 dX0_report_67 rfl ykJ14_append_2 (Or.inl q1674) q1675 q1676 (Nat.le_of_ble_eq_true rfl) (cs_rf cs_nil) (by decide) [va_rf (hst q7.2 110)] hb10 (by decide) rfl rfl rfl (sJ14_append_2 hγ q7.1 (hst q7.2 110) q7.2 q9 hq9) ?_
  refine J_aload_n (i := 0) 0 71 dX0_report_70 rfl rfl rfl ?_
  obtain ⟨v11, hv11, h⟩ := some_of_bind h
  refine J_gR 74 dX0_report_71 rfl fk_z_259 hv11 ?_
  refine J_aload_n (i := 0) 0 75 dX0_report_74 rfl rfl rfl ?_
  obtain ⟨v12, hv12, h⟩ := some_of_bind h
  refine J_gR 78 dX0_report_75 rfl fk_z_261 hv12 ?_
  refine J_iload_n (i := 3) 2 79 dX0_report_78 rfl rfl rfl ?_
  obtain ⟨v13, hv13, h⟩ := some_of_bind h
  refine J_iald 80 dX0_report_79 rfl hv13 ?_
  obtain ⟨v14, hv14, h⟩ := some_of_bind h
  refine J_iald 81 dX0_report_80 rfl hv14 ?_
  obtain ⟨b16, hb16, h⟩ := some_of_bind h
  obtain ⟨q15, hq15, h⟩ := some_of_bind h
  refine J_cVr 84 dX0_report_81 rfl ykJ14_append_3 (Or.inl q1713) q1714 q1715 (Nat.le_of_ble_eq_true rfl) (cs_rf cs_nil) (by decide) [.int v14] hb16 (by decide) rfl rfl rfl (sJ14_append_3 hγ q9.1 v14 q9.2 q15 hq15) ?_
  obtain ⟨b18, hb18, h⟩ := some_of_bind h
  obtain ⟨q17, hq17, h⟩ := some_of_bind h
  refine J_cVr 87 dX0_report_84 rfl ykJ14_toString (Or.inl q1739) q918 q3005 (Nat.le_of_ble_eq_true rfl) (cs_rf cs_nil) (by decide) [] hb18 (by decide) rfl rfl rfl (sJ14_toString hγ q15.1  q15.2 q17 hq17) ?_
  obtain ⟨b20, hb20, h⟩ := some_of_bind h
  obtain ⟨q19, hq19, h⟩ := some_of_bind h
  refine J_cVr 90 dX0_report_87 rfl ykJ14_append_2 (Or.inl q1674) q1675 q1676 (Nat.le_of_ble_eq_true rfl) cs_nil (by decide) [va_rf q17.1] hb20 (by decide) rfl rfl rfl (sJ14_append_2 hγ q1.1 q17.1 q17.2 q19 hq19) ?_
  refine J_popr 91 dX0_report_90 rfl ?_
  refine J_iinc (i := 3) (v := l3 + (1 : Int32)) 2 94 [(3, 1, .int (l3 + (1 : Int32))), (0, 1, va_rf l0), (2, 1, va_rf l2)] dX0_report_91 rfl rfl (Nat.le_of_ble_eq_true rfl) (by rw [kic_1]) rfl ?_
  refine J_goto 24 dX0_report_94 (by decide) ?_
  refine J.pick [1, 2, 0] rfl ?_
  exact hk24 (l3 + (1 : Int32)) q19.2 h
def X0_report_c24 (l0 : Option Nat) (l2 : Option Nat) (k97 : Hp → Option (Int32 × Hp)) : Nat → Int32 → Hp → Option (Int32 × Hp)
  | 0, _, _ => none
  | n + 1, l3, σ =>
    (gI σ l0 [0] 18).bind fun v1 =>
    if v1 ≤ l3 then
      k97  σ
    else
      if l3 = 0 then
        X0_report_c45 (X0_report_c24 l0 l2 k97 n) k97 l0 l2 l3 l2 (hst σ 100) σ
      else
        X0_report_c45 (X0_report_c24 l0 l2 k97 n) k97 l0 l2 l3 l2 (hst σ 106) σ
set_option maxHeartbeats 4000000 in
theorem jX0_report_c24 {γ : GP} {σ0 : Hp} {q : (Int32 × Hp)} (hγ : GOK γ) (l0 : Option Nat) (l2 : Option Nat) {k97 : Hp → Option (Int32 × Hp)} (hk97 : ∀  (σ : Hp), k97  σ = some q → J γ mX0_report (σ0, .inr (some (.int q.1)), q.2) σ 97 [(0, 1, va_rf l0), (2, 1, va_rf l2)] []) : ∀ (n : Nat) (l3 : Int32) (σ : Hp), X0_report_c24 l0 l2 k97 n l3 σ = some q → J γ mX0_report (σ0, .inr (some (.int q.1)), q.2) σ 24 [(0, 1, va_rf l0), (2, 1, va_rf l2), (3, 1, .int l3)] [] := by
  intro n
  induction n with
  | zero => intro l3 σ h; exact nomatch (show none = some q from h)
  | succ n ih =>
    intro l3 σ h
    rw [X0_report_c24] at h
    refine J_iload_n (i := 3) 2 25 dX0_report_24 rfl rfl rfl ?_
    refine J_aload_n (i := 0) 0 26 dX0_report_25 rfl rfl rfl ?_
    obtain ⟨v1, hv1, h⟩ := some_of_bind h
    refine J_gI 29 dX0_report_26 rfl fk_z_260 hv1 ?_
    refine J_icmp_ge 97 32 dX0_report_29 (by decide) rfl (fun c2 => ?_) (fun c2 => ?_)
    · rw [if_pos c2] at h
      refine J.pick [0, 1] rfl ?_
      exact hk97  σ h
    · rw [if_neg c2] at h
      refine J_aload_n (i := 2) 1 33 dX0_report_32 rfl rfl rfl ?_
      refine J_iload_n (i := 3) 2 34 dX0_report_33 rfl rfl rfl ?_
      refine J_if_ne 42 37 dX0_report_34 (by decide) rfl (fun c3 => ?_) (fun c3 => ?_)
      · rw [if_neg c3] at h
        refine J_ldcwS (k := 106) (tx := ",") (show (106, "MissCurves", 390, ",") ∈ strl by decide) 45 dX0_report_42 rfl ?_
        exact jX0_report_c45 hγ l0 l2 l3 ih hk97 l2 (hst σ 106) σ h
      · rw [if_pos c3] at h
        refine J_ldcS (k := 100) (tx := "") (show (100, "MissCurves", 92, "") ∈ strl by decide) 39 dX0_report_37 rfl ?_
        refine J_goto 45 dX0_report_39 (by decide) ?_
        exact jX0_report_c45 hγ l0 l2 l3 ih hk97 l2 (hst σ 100) σ h
def X0_report (l0 : Option Nat) (l1 : Int32) (σ : Hp) : Option (Int32 × Hp) :=
  (X0_isTenant l1 σ).bind fun q1 =>
  if q1.1 = 0 then
    some ((-1 : Int32), q1.2)
  else
    (cT q1.2 l0 0).bind fun b4 =>
    (X0_layCurve l0 l1 q1.2).bind fun q3 =>
    (some (hsz q3)).bind fun b6 =>
    (J14_init (some (hsz q3))  (wN q3 35 0 4)).bind fun q5 =>
    X0_report_c24 l0 (some (hsz q3)) (fun τ7 =>
      (some (hsz τ7)).bind fun b9 =>
      (J14_init (some (hsz τ7))  (wN τ7 35 0 4)).bind fun q8 =>
      (cT q8 (some (hsz τ7)) 35).bind fun b11 =>
      (J14_append_4 (some (hsz τ7)) (some (hsz q3)) q8).bind fun q10 =>
      (cT q10.2 q10.1 35).bind fun b13 =>
      (J14_append_2 q10.1 (hst q10.2 108) q10.2).bind fun q12 =>
      (cT q12.2 q12.1 35).bind fun b15 =>
      (J14_toString q12.1  q12.2).bind fun q14 =>
      (pR q14.2 l0 [0] 19 q14.1).bind fun σ16 =>
      (gR σ16 l0 [0] 19).bind fun v17 =>
      (cT σ16 v17 34).bind fun b19 =>
      (J12_length v17  σ16).bind fun q18 =>
      some (q18.1, q18.2)) FUEL (0 : Int32) q5
set_option maxHeartbeats 4000000 in
theorem sX0_report {γ : GP} (hγ : GOK γ) (l0 : Option Nat) (l1 : Int32) (σ : Hp) (q : (Int32 × Hp)) (h : X0_report l0 l1 σ = some q) : Rn γ mX0_report yX0_report [va_rf l0, .int l1] (σ, .inr (some (.int q.1)), q.2) := by
  refine J_m hγ ykX0_report rfl [(1, va_rf l0), (1, .int l1)] (cats_r (cats_i cats_nil)) (Nat.le_of_ble_eq_true rfl) ?_
  show J γ mX0_report _ σ 0 [(0, 1, va_rf l0), (1, 1, .int l1)] []
  unfold X0_report at h
  refine J_iload_n (i := 1) 1 1 dX0_report_0 rfl rfl rfl ?_
  obtain ⟨q1, hq1, h⟩ := some_of_bind h
  refine J_cSi 4 dX0_report_1 rfl ykX0_isTenant (Or.inl q491) q492 (Nat.le_of_ble_eq_true rfl) cs_nil (by decide) [.int l1] rfl rfl (sX0_isTenant hγ l1 σ q1 hq1) ?_
  refine J_if_ne 9 7 dX0_report_4 (by decide) rfl (fun c2 => ?_) (fun c2 => ?_)
  · rw [if_neg c2] at h
    refine J_aload_n (i := 0) 0 10 dX0_report_9 rfl rfl rfl ?_
    refine J_iload_n (i := 1) 1 11 dX0_report_10 rfl rfl rfl ?_
    obtain ⟨b4, hb4, h⟩ := some_of_bind h
    obtain ⟨q3, hq3, h⟩ := some_of_bind h
    refine J_cVv 14 dX0_report_11 rfl ykX0_layCurve (Or.inl q1652) q1654 qs27 (Nat.le_of_ble_eq_true rfl) cs_nil (by decide) [.int l1] hb4 (by decide) rfl rfl rfl (sX0_layCurve hγ l0 l1 q1.2 q3 hq3) ?_
    refine J_new (c9 := 35) (nsl := 4) rfl (by decide) (by decide +kernel) q784 q785 q151 17 dX0_report_14 rfl ?_
    refine J_dupr 18 dX0_report_17 rfl ?_
    obtain ⟨b6, hb6, h⟩ := some_of_bind h
    obtain ⟨q5, hq5, h⟩ := some_of_bind h
    refine J_cI 21 dX0_report_18 rfl ykJ14_init rfl (Or.inl q786) q787 rfl (Nat.le_of_ble_eq_true rfl) (cs_rf cs_nil) (by decide) [] hb6 rfl rfl (sJ14_init hγ (some (hsz q3))  (wN q3 35 0 4) q5 hq5) ?_
    refine J_astore_n (i := 2) 22 [(2, 1, va_rf (some (hsz q3))), (0, 1, va_rf l0), (1, 1, .int l1)] dX0_report_21 rfl rfl (Nat.le_of_ble_eq_true rfl) rfl ?_
    refine J_ic 23 dX0_report_22 rfl (0 : Int32) kic_0 ?_
    refine J_istore_n (i := 3) 24 [(3, 1, .int (0 : Int32)), (2, 1, va_rf (some (hsz q3))), (0, 1, va_rf l0), (1, 1, .int l1)] dX0_report_23 rfl rfl (Nat.le_of_ble_eq_true rfl) rfl ?_
    refine J.pick [2, 1, 0] rfl ?_
    refine jX0_report_c24 hγ l0 (some (hsz q3)) (fun τ7 h => ?_) FUEL (0 : Int32) q5 h
    · refine J_aload_n (i := 0) 0 98 dX0_report_97 rfl rfl rfl ?_
      refine J_new (c9 := 35) (nsl := 4) rfl (by decide) (by decide +kernel) q784 q785 q151 101 dX0_report_98 rfl ?_
      refine J_dupr 102 dX0_report_101 rfl ?_
      obtain ⟨b9, hb9, h⟩ := some_of_bind h
      obtain ⟨q8, hq8, h⟩ := some_of_bind h
      refine J_cI 105 dX0_report_102 rfl ykJ14_init rfl (Or.inl q786) q787 rfl (Nat.le_of_ble_eq_true rfl) (cs_rf (cs_rf cs_nil)) (by decide) [] hb9 rfl rfl (sJ14_init hγ (some (hsz τ7))  (wN τ7 35 0 4) q8 hq8) ?_
      refine J_aload_n (i := 2) 1 106 dX0_report_105 rfl rfl rfl ?_
      obtain ⟨b11, hb11, h⟩ := some_of_bind h
      obtain ⟨q10, hq10, h⟩ := some_of_bind h
      refine J_cVr 109 dX0_report_106 rfl ykJ14_append_4 (Or.inl q1740) q1741 q1742 (Nat.le_of_ble_eq_true rfl) (cs_rf cs_nil) (by decide) [va_rf (some (hsz q3))] hb11 (by decide) rfl rfl rfl (sJ14_append_4 hγ (some (hsz τ7)) (some (hsz q3)) q8 q10 hq10) ?_
      refine J_ldcwS (k := 108) (tx := ".") (show (108, "MissCurves", 407, ".") ∈ strl by decide) 112 dX0_report_109 rfl ?_
      obtain ⟨b13, hb13, h⟩ := some_of_bind h
      obtain ⟨q12, hq12, h⟩ := some_of_bind h
      refine J_cVr 115 dX0_report_112 rfl ykJ14_append_2 (Or.inl q1674) q1675 q1676 (Nat.le_of_ble_eq_true rfl) (cs_rf cs_nil) (by decide) [va_rf (hst q10.2 108)] hb13 (by decide) rfl rfl rfl (sJ14_append_2 hγ q10.1 (hst q10.2 108) q10.2 q12 hq12) ?_
      obtain ⟨b15, hb15, h⟩ := some_of_bind h
      obtain ⟨q14, hq14, h⟩ := some_of_bind h
      refine J_cVr 118 dX0_report_115 rfl ykJ14_toString (Or.inl q1739) q918 q3005 (Nat.le_of_ble_eq_true rfl) (cs_rf cs_nil) (by decide) [] hb15 (by decide) rfl rfl rfl (sJ14_toString hγ q12.1  q12.2 q14 hq14) ?_
      obtain ⟨σ16, hσ16, h⟩ := some_of_bind h
      refine J_pR rfl 121 dX0_report_118 rfl pk_s_412 hσ16 ?_
      refine J_aload_n (i := 0) 0 122 dX0_report_121 rfl rfl rfl ?_
      obtain ⟨v17, hv17, h⟩ := some_of_bind h
      refine J_gR 125 dX0_report_122 rfl fk_s_413 hv17 ?_
      obtain ⟨b19, hb19, h⟩ := some_of_bind h
      obtain ⟨q18, hq18, h⟩ := some_of_bind h
      refine J_cVi 128 dX0_report_125 rfl ykJ12_length (Or.inl q1805) q1181 q1182 (Nat.le_of_ble_eq_true rfl) cs_nil (by decide) [] hb19 (by decide) rfl rfl rfl (sJ12_length hγ v17  σ16 q18 hq18) ?_
      exact J_iret rfl dX0_report_128 (retI h)
  · rw [if_pos c2] at h
    refine J_ic 8 dX0_report_7 rfl (-1 : Int32) kic_m1 ?_
    exact J_iret rfl dX0_report_8 (retI h)
abbrev mX0_sign : MP := (cX0_sign, "MissCurves", 2, (Option.some FieldType.int), 6, "sign", [])
theorem ykX0_sign : YK yX0_sign mX0_sign 1 := ⟨q1809, q128, ⟨by decide, by decide⟩, by decide +kernel, Nat.le_of_ble_eq_true rfl, by decide, rfl, rfl⟩
def X0_sign (l0 : Option Nat) (l1 : Int32) (σ : Hp) : Option (Int32 × Hp) :=
  (gR σ l0 [0] 19).bind fun v1 =>
  (cT σ v1 34).bind fun b3 =>
  (J12_length v1  σ).bind fun q2 =>
  (X0_in l1.toInt64 (0 : Int64) ((q2.1 - (1 : Int32)).toInt64) q2.2).bind fun q4 =>
  if q4.1 = 0 then
    some ((-1 : Int32), q4.2)
  else
    (gR q4.2 l0 [0] 19).bind fun v6 =>
    (cT q4.2 v6 34).bind fun b8 =>
    (J12_charAt v6 l1 q4.2).bind fun q7 =>
    some (q7.1, q7.2)
set_option maxHeartbeats 4000000 in
theorem sX0_sign {γ : GP} (hγ : GOK γ) (l0 : Option Nat) (l1 : Int32) (σ : Hp) (q : (Int32 × Hp)) (h : X0_sign l0 l1 σ = some q) : Rn γ mX0_sign yX0_sign [va_rf l0, .int l1] (σ, .inr (some (.int q.1)), q.2) := by
  refine J_m hγ ykX0_sign rfl [(1, va_rf l0), (1, .int l1)] (cats_r (cats_i cats_nil)) (Nat.le_of_ble_eq_true rfl) ?_
  show J γ mX0_sign _ σ 0 [(0, 1, va_rf l0), (1, 1, .int l1)] []
  unfold X0_sign at h
  refine J_iload_n (i := 1) 1 1 dX0_sign_0 rfl rfl rfl ?_
  refine J_i2l 2 dX0_sign_1 rfl ?_
  refine J_lconst 3 dX0_sign_2 rfl (0 : Int64) rfl ?_
  refine J_aload_n (i := 0) 0 4 dX0_sign_3 rfl rfl rfl ?_
  obtain ⟨v1, hv1, h⟩ := some_of_bind h
  refine J_gR 7 dX0_sign_4 rfl fk_s_413 hv1 ?_
  obtain ⟨b3, hb3, h⟩ := some_of_bind h
  obtain ⟨q2, hq2, h⟩ := some_of_bind h
  refine J_cVi 10 dX0_sign_7 rfl ykJ12_length (Or.inl q1805) q1181 q1182 (Nat.le_of_ble_eq_true rfl) (cs_long (cs_long cs_nil)) (by decide) [] hb3 (by decide) rfl rfl rfl (sJ12_length hγ v1  σ q2 hq2) ?_
  refine J_ic 11 dX0_sign_10 rfl (1 : Int32) kic_1 ?_
  refine J_isub 12 dX0_sign_11 rfl ?_
  refine J_i2l 13 dX0_sign_12 rfl ?_
  obtain ⟨q4, hq4, h⟩ := some_of_bind h
  refine J_cSi 16 dX0_sign_13 rfl ykX0_in (Or.inl q484) q485 (Nat.le_of_ble_eq_true rfl) cs_nil (by decide) [.long l1.toInt64, .long (0 : Int64), .long ((q2.1 - (1 : Int32)).toInt64)] rfl rfl (sX0_in hγ l1.toInt64 (0 : Int64) ((q2.1 - (1 : Int32)).toInt64) q2.2 q4 hq4) ?_
  refine J_if_eq 30 19 dX0_sign_16 (by decide) rfl (fun c5 => ?_) (fun c5 => ?_)
  · rw [if_pos c5] at h
    refine J_ic 31 dX0_sign_30 rfl (-1 : Int32) kic_m1 ?_
    exact J_iret rfl dX0_sign_31 (retI h)
  · rw [if_neg c5] at h
    refine J_aload_n (i := 0) 0 20 dX0_sign_19 rfl rfl rfl ?_
    obtain ⟨v6, hv6, h⟩ := some_of_bind h
    refine J_gR 23 dX0_sign_20 rfl fk_s_413 hv6 ?_
    refine J_iload_n (i := 1) 1 24 dX0_sign_23 rfl rfl rfl ?_
    obtain ⟨b8, hb8, h⟩ := some_of_bind h
    obtain ⟨q7, hq7, h⟩ := some_of_bind h
    refine J_cVi 27 dX0_sign_24 rfl ykJ12_charAt (Or.inl q1810) q1189 q1190 (Nat.le_of_ble_eq_true rfl) cs_nil (by decide) [.int l1] hb8 (by decide) rfl rfl rfl (sJ12_charAt hγ v6 l1 q4.2 q7 hq7) ?_
    refine J_goto 31 dX0_sign_27 (by decide) ?_
    exact J_iret rfl dX0_sign_31 (retI h)
