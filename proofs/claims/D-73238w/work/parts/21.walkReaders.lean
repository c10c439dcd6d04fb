set_option maxRecDepth 100000
abbrev mJ12_coder : MP := (cJ12_coder, "java/lang/String", 1, (Option.some FieldType.byte), 0, "coder", [])
theorem ykJ12_coder : YK yJ12_coder mJ12_coder 0 := ⟨q1187, q148, ⟨by decide, by decide⟩, by decide +kernel, Nat.le_of_ble_eq_true rfl, by decide, rfl, rfl⟩
theorem fk_r_314 : FOK "java/lang/String" 15 [34] 1 isI := FOK.one (by decide) rfl (Nat.le_of_ble_eq_true rfl) (Or.inl ⟨_, q967, Or.inl rfl⟩) rfl
def J12_coder (l0 : Option Nat) (σ : Hp) : Option (Int32 × Hp) :=
  if (1 : Int32) = 0 then
    rN .byte (1 : Int32) σ
  else
    (gI σ l0 [34] 1).bind fun v2 =>
    rN .byte v2 σ
set_option maxHeartbeats 4000000 in
theorem sJ12_coder {γ : GP} (hγ : GOK γ) (l0 : Option Nat) (σ : Hp) (q : (Int32 × Hp)) (h : J12_coder l0 σ = some q) : Rn γ mJ12_coder yJ12_coder [va_rf l0] (σ, .inr (some (.int q.1)), q.2) := by
  refine J_m hγ ykJ12_coder rfl [(1, va_rf l0)] (cats_r cats_nil) (Nat.le_of_ble_eq_true rfl) ?_
  show J γ mJ12_coder _ σ 0 [(0, 1, va_rf l0)] []
  unfold J12_coder at h
  refine J_getsI (x := 1) (by decide) q952 3 dJ12_coder_0 rfl ?_
  refine J_if_eq 13 6 dJ12_coder_3 (by decide) rfl (fun c1 => ?_) (fun c1 => ?_)
  · rw [if_pos c1] at h
    refine J_ic 14 dJ12_coder_13 rfl (1 : Int32) kic_1 ?_
    exact J_nret rfl (ite_some h).1 rfl dJ12_coder_14 (retN h)
  · rw [if_neg c1] at h
    refine J_aload_n (i := 0) 0 7 dJ12_coder_6 rfl rfl rfl ?_
    obtain ⟨v2, hv2, h⟩ := some_of_bind h
    refine J_gI 10 dJ12_coder_7 rfl fk_r_314 hv2 ?_
    refine J_goto 14 dJ12_coder_10 (by decide) ?_
    exact J_nret rfl (ite_some h).1 rfl dJ12_coder_14 (retN h)
abbrev mJ12_length : MP := (cJ12_length, "java/lang/String", 1, (Option.some FieldType.int), 1, "length", [])
theorem ykJ12_length : YK yJ12_length mJ12_length 0 := ⟨q1183, q148, ⟨by decide, by decide⟩, by decide +kernel, Nat.le_of_ble_eq_true rfl, by decide, rfl, rfl⟩
theorem fk_r_315 : FOK "java/lang/String" 9 [34] 0 isR := FOK.one (by decide) rfl (Nat.le_of_ble_eq_true rfl) (Or.inl ⟨_, q966, Or.inl rfl⟩) rfl
def J12_length (l0 : Option Nat) (σ : Hp) : Option (Int32 × Hp) :=
  (gR σ l0 [34] 0).bind fun v1 =>
  (aN σ v1).bind fun v2 =>
  (cT σ l0 34).bind fun b4 =>
  (J12_coder l0  σ).bind fun q3 =>
  some ((v2 >>> (q3.1 &&& 31)), q3.2)
set_option maxHeartbeats 4000000 in
theorem sJ12_length {γ : GP} (hγ : GOK γ) (l0 : Option Nat) (σ : Hp) (q : (Int32 × Hp)) (h : J12_length l0 σ = some q) : Rn γ mJ12_length yJ12_length [va_rf l0] (σ, .inr (some (.int q.1)), q.2) := by
  refine J_m hγ ykJ12_length rfl [(1, va_rf l0)] (cats_r cats_nil) (Nat.le_of_ble_eq_true rfl) ?_
  show J γ mJ12_length _ σ 0 [(0, 1, va_rf l0)] []
  unfold J12_length at h
  refine J_aload_n (i := 0) 0 1 dJ12_length_0 rfl rfl rfl ?_
  obtain ⟨v1, hv1, h⟩ := some_of_bind h
  refine J_gR 4 dJ12_length_1 rfl fk_r_315 hv1 ?_
  obtain ⟨v2, hv2, h⟩ := some_of_bind h
  refine J_alen 5 dJ12_length_4 rfl hv2 ?_
  refine J_aload_n (i := 0) 0 6 dJ12_length_5 rfl rfl rfl ?_
  obtain ⟨b4, hb4, h⟩ := some_of_bind h
  obtain ⟨q3, hq3, h⟩ := some_of_bind h
  refine J_cVi 9 dJ12_length_6 rfl ykJ12_coder (Or.inl q1184) q1185 q1186 (Nat.le_of_ble_eq_true rfl) (cs_int cs_nil) (by decide) [] hb4 (by decide) rfl rfl rfl (sJ12_coder hγ l0  σ q3 hq3) ?_
  refine J_ishr 10 dJ12_length_9 rfl ?_
  exact J_iret rfl dJ12_length_10 (retI h)
abbrev mJ12_isLatin1 : MP := (cJ12_isLatin1, "java/lang/String", 1, (Option.some FieldType.boolean), 0, "isLatin1", [])
theorem ykJ12_isLatin1 : YK yJ12_isLatin1 mJ12_isLatin1 0 := ⟨q982, q148, ⟨by decide, by decide⟩, by decide +kernel, Nat.le_of_ble_eq_true rfl, by decide, rfl, rfl⟩
def J12_isLatin1 (l0 : Option Nat) (σ : Hp) : Option (Int32 × Hp) :=
  if (1 : Int32) = 0 then
    some ((0 : Int32), σ)
  else
    (gI σ l0 [34] 1).bind fun v3 =>
    if v3 = 0 then
      some ((1 : Int32), σ)
    else
      some ((0 : Int32), σ)
set_option maxHeartbeats 4000000 in
theorem sJ12_isLatin1 {γ : GP} (hγ : GOK γ) (l0 : Option Nat) (σ : Hp) (q : (Int32 × Hp)) (h : J12_isLatin1 l0 σ = some q) : Rn γ mJ12_isLatin1 yJ12_isLatin1 [va_rf l0] (σ, .inr (some (.int q.1)), q.2) := by
  refine J_m hγ ykJ12_isLatin1 rfl [(1, va_rf l0)] (cats_r cats_nil) (Nat.le_of_ble_eq_true rfl) ?_
  show J γ mJ12_isLatin1 _ σ 0 [(0, 1, va_rf l0)] []
  unfold J12_isLatin1 at h
  refine J_getsI (x := 1) (by decide) q952 3 dJ12_isLatin1_0 rfl ?_
  refine J_if_eq 17 6 dJ12_isLatin1_3 (by decide) rfl (fun c1 => ?_) (fun c1 => ?_)
  · rw [if_pos c1] at h
    refine J_ic 18 dJ12_isLatin1_17 rfl (0 : Int32) kic_0 ?_
    exact J_zret rfl (by decide) dJ12_isLatin1_18 (retI h)
  · rw [if_neg c1] at h
    refine J_aload_n (i := 0) 0 7 dJ12_isLatin1_6 rfl rfl rfl ?_
    obtain ⟨v3, hv3, h⟩ := some_of_bind h
    refine J_gI 10 dJ12_isLatin1_7 rfl fk_r_314 hv3 ?_
    refine J_if_ne 17 13 dJ12_isLatin1_10 (by decide) rfl (fun c4 => ?_) (fun c4 => ?_)
    · rw [if_neg c4] at h
      refine J_ic 18 dJ12_isLatin1_17 rfl (0 : Int32) kic_0 ?_
      exact J_zret rfl (by decide) dJ12_isLatin1_18 (retI h)
    · rw [if_pos c4] at h
      refine J_ic 14 dJ12_isLatin1_13 rfl (1 : Int32) kic_1 ?_
      refine J_goto 18 dJ12_isLatin1_14 (by decide) ?_
      exact J_zret rfl (by decide) dJ12_isLatin1_18 (retI h)
abbrev mJ12_checkIndex : MP := (cJ12_checkIndex, "java/lang/String", 2, (Option.none : Option FieldType), 2, "checkIndex", [])
theorem ykJ12_checkIndex : YK yJ12_checkIndex mJ12_checkIndex 2 := ⟨q900, q148, ⟨by decide, by decide⟩, by decide +kernel, Nat.le_of_ble_eq_true rfl, by decide, rfl, rfl⟩
def J12_checkIndex (l0 : Int32) (l1 : Int32) (σ : Hp) : Option Hp :=
  (J4_checkIndex l0 l1 (hst σ 5) σ).bind fun q1 =>
  some q1.2
set_option maxHeartbeats 4000000 in
theorem sJ12_checkIndex {γ : GP} (hγ : GOK γ) (l0 : Int32) (l1 : Int32) (σ : Hp) (q : Hp) (h : J12_checkIndex l0 l1 σ = some q) : Rn γ mJ12_checkIndex yJ12_checkIndex [.int l0, .int l1] (σ, .inr none, q) := by
  refine J_m hγ ykJ12_checkIndex rfl [(1, .int l0), (1, .int l1)] (cats_i (cats_i cats_nil)) (Nat.le_of_ble_eq_true rfl) ?_
  show J γ mJ12_checkIndex _ σ 0 [(0, 1, .int l0), (1, 1, .int l1)] []
  unfold J12_checkIndex at h
  refine J_iload_n (i := 0) 0 1 dJ12_checkIndex_0 rfl rfl rfl ?_
  refine J_iload_n (i := 1) 1 2 dJ12_checkIndex_1 rfl rfl rfl ?_
  refine J_gets (k := 5) (by decide) q878 5 dJ12_checkIndex_2 rfl ?_
  obtain ⟨q1, hq1, h⟩ := some_of_bind h
  refine J_cSi 8 dJ12_checkIndex_5 rfl ykJ4_checkIndex (Or.inl q901) q555 (Nat.le_of_ble_eq_true rfl) cs_nil (by decide) [.int l0, .int l1, va_rf (hst σ 5)] rfl rfl (sJ4_checkIndex hγ l0 l1 (hst σ 5) σ q1 hq1) ?_
  refine J_popi 9 dJ12_checkIndex_8 rfl ?_
  exact J_vret rfl dJ12_checkIndex_9 (retV h)
abbrev mJ17_charAt : MP := (cJ17_charAt, "java/lang/StringLatin1", 2, (Option.some FieldType.char), 3, "charAt", [])
theorem ykJ17_charAt : YK yJ17_charAt mJ17_charAt 2 := ⟨q1194, q154, ⟨by decide, by decide⟩, by decide +kernel, Nat.le_of_ble_eq_true rfl, by decide, rfl, rfl⟩
def J17_charAt (l0 : Option Nat) (l1 : Int32) (σ : Hp) : Option (Int32 × Hp) :=
  (aN σ l0).bind fun v1 =>
  (J12_checkIndex l1 v1 σ).bind fun q2 =>
  (aI 2 q2 l0 l1).bind fun v3 =>
  rN .char (i2c (v3 &&& (255 : Int32))) q2
set_option maxHeartbeats 4000000 in
theorem sJ17_charAt {γ : GP} (hγ : GOK γ) (l0 : Option Nat) (l1 : Int32) (σ : Hp) (q : (Int32 × Hp)) (h : J17_charAt l0 l1 σ = some q) : Rn γ mJ17_charAt yJ17_charAt [va_rf l0, .int l1] (σ, .inr (some (.int q.1)), q.2) := by
  refine J_m hγ ykJ17_charAt rfl [(1, va_rf l0), (1, .int l1)] (cats_r (cats_i cats_nil)) (Nat.le_of_ble_eq_true rfl) ?_
  show J γ mJ17_charAt _ σ 0 [(0, 1, va_rf l0), (1, 1, .int l1)] []
  unfold J17_charAt at h
  refine J_iload_n (i := 1) 1 1 dJ17_charAt_0 rfl rfl rfl ?_
  refine J_aload_n (i := 0) 0 2 dJ17_charAt_1 rfl rfl rfl ?_
  obtain ⟨v1, hv1, h⟩ := some_of_bind h
  refine J_alen 3 dJ17_charAt_2 rfl hv1 ?_
  obtain ⟨q2, hq2, h⟩ := some_of_bind h
  refine J_cSv 6 dJ17_charAt_3 rfl ykJ12_checkIndex (Or.inl q1195) q899 (Nat.le_of_ble_eq_true rfl) cs_nil (by decide) [.int l1, .int v1] rfl rfl (sJ12_checkIndex hγ l1 v1 σ q2 hq2) ?_
  refine J_aload_n (i := 0) 0 7 dJ17_charAt_6 rfl rfl rfl ?_
  refine J_iload_n (i := 1) 1 8 dJ17_charAt_7 rfl rfl rfl ?_
  obtain ⟨v3, hv3, h⟩ := some_of_bind h
  refine J_bald 9 dJ17_charAt_8 rfl hv3 ?_
  refine J_sipush 12 dJ17_charAt_9 rfl (255 : Int32) ksp_255 ?_
  refine J_iand 13 dJ17_charAt_12 rfl ?_
  refine J_i2c 14 dJ17_charAt_13 rfl ?_
  exact J_nret rfl (ite_some h).1 rfl dJ17_charAt_14 (retN h)
abbrev mJ15_length : MP := (cJ15_length, "java/lang/StringUTF16", 1, (Option.some FieldType.int), 0, "length", [])
theorem ykJ15_length : YK yJ15_length mJ15_length 1 := ⟨q874, q152, ⟨by decide, by decide⟩, by decide +kernel, Nat.le_of_ble_eq_true rfl, by decide, rfl, rfl⟩
def J15_length (l0 : Option Nat) (σ : Hp) : Option (Int32 × Hp) :=
  (aN σ l0).bind fun v1 =>
  some ((v1 >>> ((1 : Int32) &&& 31)), σ)
set_option maxHeartbeats 4000000 in
theorem sJ15_length {γ : GP} (hγ : GOK γ) (l0 : Option Nat) (σ : Hp) (q : (Int32 × Hp)) (h : J15_length l0 σ = some q) : Rn γ mJ15_length yJ15_length [va_rf l0] (σ, .inr (some (.int q.1)), q.2) := by
  refine J_m hγ ykJ15_length rfl [(1, va_rf l0)] (cats_r cats_nil) (Nat.le_of_ble_eq_true rfl) ?_
  show J γ mJ15_length _ σ 0 [(0, 1, va_rf l0)] []
  unfold J15_length at h
  refine J_aload_n (i := 0) 0 1 dJ15_length_0 rfl rfl rfl ?_
  obtain ⟨v1, hv1, h⟩ := some_of_bind h
  refine J_alen 2 dJ15_length_1 rfl hv1 ?_
  refine J_ic 3 dJ15_length_2 rfl (1 : Int32) kic_1 ?_
  refine J_ishr 4 dJ15_length_3 rfl ?_
  exact J_iret rfl dJ15_length_4 (retI h)
abbrev mJ15_checkIndex : MP := (cJ15_checkIndex, "java/lang/StringUTF16", 2, (Option.none : Option FieldType), 3, "checkIndex", [])
theorem ykJ15_checkIndex : YK yJ15_checkIndex mJ15_checkIndex 2 := ⟨q897, q152, ⟨by decide, by decide⟩, by decide +kernel, Nat.le_of_ble_eq_true rfl, by decide, rfl, rfl⟩
def J15_checkIndex (l0 : Int32) (l1 : Option Nat) (σ : Hp) : Option Hp :=
  (J15_length l1 σ).bind fun q1 =>
  (J12_checkIndex l0 q1.1 q1.2).bind fun q2 =>
  some q2
set_option maxHeartbeats 4000000 in
theorem sJ15_checkIndex {γ : GP} (hγ : GOK γ) (l0 : Int32) (l1 : Option Nat) (σ : Hp) (q : Hp) (h : J15_checkIndex l0 l1 σ = some q) : Rn γ mJ15_checkIndex yJ15_checkIndex [.int l0, va_rf l1] (σ, .inr none, q) := by
  refine J_m hγ ykJ15_checkIndex rfl [(1, .int l0), (1, va_rf l1)] (cats_i (cats_r cats_nil)) (Nat.le_of_ble_eq_true rfl) ?_
  show J γ mJ15_checkIndex _ σ 0 [(0, 1, .int l0), (1, 1, va_rf l1)] []
  unfold J15_checkIndex at h
  refine J_iload_n (i := 0) 0 1 dJ15_checkIndex_0 rfl rfl rfl ?_
  refine J_aload_n (i := 1) 1 2 dJ15_checkIndex_1 rfl rfl rfl ?_
  obtain ⟨q1, hq1, h⟩ := some_of_bind h
  refine J_cSi 5 dJ15_checkIndex_2 rfl ykJ15_length (Or.inl q872) q873 (Nat.le_of_ble_eq_true rfl) (cs_int cs_nil) (by decide) [va_rf l1] rfl rfl (sJ15_length hγ l1 σ q1 hq1) ?_
  obtain ⟨q2, hq2, h⟩ := some_of_bind h
  refine J_cSv 8 dJ15_checkIndex_5 rfl ykJ12_checkIndex (Or.inl q898) q899 (Nat.le_of_ble_eq_true rfl) cs_nil (by decide) [.int l0, .int q1.1] rfl rfl (sJ12_checkIndex hγ l0 q1.1 q1.2 q2 hq2) ?_
  exact J_vret rfl dJ15_checkIndex_8 (retV h)
abbrev mJ15_getChar : MP := (cJ15_getChar, "java/lang/StringUTF16", 2, (Option.some FieldType.char), 1, "getChar", [])
theorem ykJ15_getChar : YK yJ15_getChar mJ15_getChar 2 := ⟨q961, q152, ⟨by decide, by decide⟩, by decide +kernel, Nat.le_of_ble_eq_true rfl, by decide, rfl, rfl⟩
def J15_getChar (l0 : Option Nat) (l1 : Int32) (σ : Hp) : Option (Int32 × Hp) :=
  none
set_option maxHeartbeats 4000000 in
theorem sJ15_getChar {γ : GP} (hγ : GOK γ) (l0 : Option Nat) (l1 : Int32) (σ : Hp) (q : (Int32 × Hp)) (h : J15_getChar l0 l1 σ = some q) : Rn γ mJ15_getChar yJ15_getChar [va_rf l0, .int l1] (σ, .inr (some (.int q.1)), q.2) := by
  refine J_m hγ ykJ15_getChar rfl [(1, va_rf l0), (1, .int l1)] (cats_r (cats_i cats_nil)) (Nat.le_of_ble_eq_true rfl) ?_
  show J γ mJ15_getChar _ σ 0 [(0, 1, va_rf l0), (1, 1, .int l1)] []
  unfold J15_getChar at h
  cases h
abbrev mJ15_charAt : MP := (cJ15_charAt, "java/lang/StringUTF16", 2, (Option.some FieldType.char), 4, "charAt", [])
theorem ykJ15_charAt : YK yJ15_charAt mJ15_charAt 2 := ⟨q1198, q152, ⟨by decide, by decide⟩, by decide +kernel, Nat.le_of_ble_eq_true rfl, by decide, rfl, rfl⟩
def J15_charAt (l0 : Option Nat) (l1 : Int32) (σ : Hp) : Option (Int32 × Hp) :=
  (J15_checkIndex l1 l0 σ).bind fun q1 =>
  (J15_getChar l0 l1 q1).bind fun q2 =>
  rN .char q2.1 q2.2
set_option maxHeartbeats 4000000 in
theorem sJ15_charAt {γ : GP} (hγ : GOK γ) (l0 : Option Nat) (l1 : Int32) (σ : Hp) (q : (Int32 × Hp)) (h : J15_charAt l0 l1 σ = some q) : Rn γ mJ15_charAt yJ15_charAt [va_rf l0, .int l1] (σ, .inr (some (.int q.1)), q.2) := by
  refine J_m hγ ykJ15_charAt rfl [(1, va_rf l0), (1, .int l1)] (cats_r (cats_i cats_nil)) (Nat.le_of_ble_eq_true rfl) ?_
  show J γ mJ15_charAt _ σ 0 [(0, 1, va_rf l0), (1, 1, .int l1)] []
  unfold J15_charAt at h
  refine J_iload_n (i := 1) 1 1 dJ15_charAt_0 rfl rfl rfl ?_
  refine J_aload_n (i := 0) 0 2 dJ15_charAt_1 rfl rfl rfl ?_
  obtain ⟨q1, hq1, h⟩ := some_of_bind h
  refine J_cSv 5 dJ15_charAt_2 rfl ykJ15_checkIndex (Or.inl q895) q896 (Nat.le_of_ble_eq_true rfl) cs_nil (by decide) [.int l1, va_rf l0] rfl rfl (sJ15_checkIndex hγ l1 l0 σ q1 hq1) ?_
  refine J_aload_n (i := 0) 0 6 dJ15_charAt_5 rfl rfl rfl ?_
  refine J_iload_n (i := 1) 1 7 dJ15_charAt_6 rfl rfl rfl ?_
  obtain ⟨q2, hq2, h⟩ := some_of_bind h
  refine J_cSi 10 dJ15_charAt_7 rfl ykJ15_getChar (Or.inl q959) q960 (Nat.le_of_ble_eq_true rfl) cs_nil (by decide) [va_rf l0, .int l1] rfl rfl (sJ15_getChar hγ l0 l1 q1 q2 hq2) ?_
  exact J_nret rfl (ite_some h).1 rfl dJ15_charAt_10 (retN h)
abbrev mJ12_charAt : MP := (cJ12_charAt, "java/lang/String", 2, (Option.some FieldType.char), 5, "charAt", [])
theorem ykJ12_charAt : YK yJ12_charAt mJ12_charAt 1 := ⟨q1191, q148, ⟨by decide, by decide⟩, by decide +kernel, Nat.le_of_ble_eq_true rfl, by decide, rfl, rfl⟩
def J12_charAt (l0 : Option Nat) (l1 : Int32) (σ : Hp) : Option (Int32 × Hp) :=
  (cT σ l0 34).bind fun b2 =>
  (J12_isLatin1 l0  σ).bind fun q1 =>
  if q1.1 = 0 then
    (gR q1.2 l0 [34] 0).bind fun v4 =>
    (J15_charAt v4 l1 q1.2).bind fun q5 =>
    rN .char q5.1 q5.2
  else
    (gR q1.2 l0 [34] 0).bind fun v6 =>
    (J17_charAt v6 l1 q1.2).bind fun q7 =>
    rN .char q7.1 q7.2
set_option maxHeartbeats 4000000 in
theorem sJ12_charAt {γ : GP} (hγ : GOK γ) (l0 : Option Nat) (l1 : Int32) (σ : Hp) (q : (Int32 × Hp)) (h : J12_charAt l0 l1 σ = some q) : Rn γ mJ12_charAt yJ12_charAt [va_rf l0, .int l1] (σ, .inr (some (.int q.1)), q.2) := by
  refine J_m hγ ykJ12_charAt rfl [(1, va_rf l0), (1, .int l1)] (cats_r (cats_i cats_nil)) (Nat.le_of_ble_eq_true rfl) ?_
  show J γ mJ12_charAt _ σ 0 [(0, 1, va_rf l0), (1, 1, .int l1)] []
  unfold J12_charAt at h
  refine J_aload_n (i := 0) 0 1 dJ12_charAt_0 rfl rfl rfl ?_
  obtain ⟨b2, hb2, h⟩ := some_of_bind h
  obtain ⟨q1, hq1, h⟩ := some_of_bind h
  refine J_cVi 4 dJ12_charAt_1 rfl ykJ12_isLatin1 (Or.inl q979) q980 q981 (Nat.le_of_ble_eq_true rfl) cs_nil (by decide) [] hb2 (by decide) rfl rfl rfl (sJ12_isLatin1 hγ l0  σ q1 hq1) ?_
  refine J_if_eq 16 7 dJ12_charAt_4 (by decide) rfl (fun c3 => ?_) (fun c3 => ?_)
  · rw [if_pos c3] at h
    refine J_aload_n (i := 0) 0 17 dJ12_charAt_16 rfl rfl rfl ?_
    obtain ⟨v4, hv4, h⟩ := some_of_bind h
    refine J_gR 20 dJ12_charAt_17 rfl fk_r_315 hv4 ?_
    refine J_iload_n (i := 1) 1 21 dJ12_charAt_20 rfl rfl rfl ?_
    obtain ⟨q5, hq5, h⟩ := some_of_bind h
    refine J_cSi 24 dJ12_charAt_21 rfl ykJ15_charAt (Or.inl q1196) q1197 (Nat.le_of_ble_eq_true rfl) cs_nil (by decide) [va_rf v4, .int l1] rfl rfl (sJ15_charAt hγ v4 l1 q1.2 q5 hq5) ?_
    exact J_nret rfl (ite_some h).1 rfl dJ12_charAt_24 (retN h)
  · rw [if_neg c3] at h
    refine J_aload_n (i := 0) 0 8 dJ12_charAt_7 rfl rfl rfl ?_
    obtain ⟨v6, hv6, h⟩ := some_of_bind h
    refine J_gR 11 dJ12_charAt_8 rfl fk_r_315 hv6 ?_
    refine J_iload_n (i := 1) 1 12 dJ12_charAt_11 rfl rfl rfl ?_
    obtain ⟨q7, hq7, h⟩ := some_of_bind h
    refine J_cSi 15 dJ12_charAt_12 rfl ykJ17_charAt (Or.inl q1192) q1193 (Nat.le_of_ble_eq_true rfl) cs_nil (by decide) [va_rf v6, .int l1] rfl rfl (sJ17_charAt hγ v6 l1 q1.2 q7 hq7) ?_
    exact J_nret rfl (ite_some h).1 rfl dJ12_charAt_15 (retN h)
abbrev mX9_isWord : MP := (cX9_isWord, "MissCurves$Reader", 3, (Option.some FieldType.boolean), 6, "isWord", [])
theorem ykX9_isWord : YK yX9_isWord mX9_isWord 1 := ⟨q1179, q156, ⟨by decide, by decide⟩, by decide +kernel, Nat.le_of_ble_eq_true rfl, by decide, rfl, rfl⟩
theorem fk_r_316 : FOK "MissCurves$Reader" 3 [10, 23] 7 isR := FOK.cons (by decide) rfl (Nat.le_of_ble_eq_true rfl) (Or.inl ⟨_, q1086, Or.inl rfl⟩) rfl (FOK.one (by decide) rfl (Nat.le_of_ble_eq_true rfl) (Or.inl ⟨_, q1086, Or.inl rfl⟩) rfl)
theorem fk_r_317 : FOK "MissCurves$Reader" 52 [0] 14 isR := FOK.one (by decide) rfl (Nat.le_of_ble_eq_true rfl) (Or.inr ⟨_, q395⟩) rfl
theorem fk_r_318 : FOK "MissCurves$Reader" 42 [10, 23] 0 isI := FOK.cons (by decide) rfl (Nat.le_of_ble_eq_true rfl) (Or.inl ⟨_, q1075, Or.inl rfl⟩) rfl (FOK.one (by decide) rfl (Nat.le_of_ble_eq_true rfl) (Or.inl ⟨_, q1075, Or.inl rfl⟩) rfl)
theorem fk_r_319 : FOK "MissCurves$Reader" 49 [10, 23] 1 isI := FOK.cons (by decide) rfl (Nat.le_of_ble_eq_true rfl) (Or.inl ⟨_, q1078, Or.inl rfl⟩) rfl (FOK.one (by decide) rfl (Nat.le_of_ble_eq_true rfl) (Or.inl ⟨_, q1078, Or.inl rfl⟩) rfl)
def X9_isWord_c20 (l0 : Option Nat) (l1 : Option Nat)  : Nat → Int32 → Hp → Option (Int32 × Hp)
  | 0, _, _ => none
  | n + 1, l2, σ =>
    (cT σ l1 34).bind fun b2 =>
    (J12_length l1  σ).bind fun q1 =>
    if q1.1 ≤ l2 then
      some ((1 : Int32), q1.2)
    else
      (gR q1.2 l0 [10, 23] 7).bind fun v5 =>
      (gR q1.2 v5 [0] 14).bind fun v6 =>
      (gI q1.2 l0 [10, 23] 0).bind fun v7 =>
      (aI 2 q1.2 v6 (v7 + l2)).bind fun v8 =>
      (cT q1.2 l1 34).bind fun b10 =>
      (J12_charAt l1 l2 q1.2).bind fun q9 =>
      if v8 = q9.1 then
        X9_isWord_c20 l0 l1 n (l2 + (1 : Int32)) q9.2
      else
        some ((0 : Int32), q9.2)
set_option maxHeartbeats 4000000 in
theorem jX9_isWord_c20 {γ : GP} {σ0 : Hp} {q : (Int32 × Hp)} (hγ : GOK γ) (l0 : Option Nat) (l1 : Option Nat)  : ∀ (n : Nat) (l2 : Int32) (σ : Hp), X9_isWord_c20 l0 l1 n l2 σ = some q → J γ mX9_isWord (σ0, .inr (some (.int q.1)), q.2) σ 20 [(0, 1, va_rf l0), (1, 1, va_rf l1), (2, 1, .int l2)] [] := by
  intro n
  induction n with
  | zero => intro l2 σ h; exact nomatch (show none = some q from h)
  | succ n ih =>
    intro l2 σ h
    rw [X9_isWord_c20] at h
    refine J_iload_n (i := 2) 2 21 dX9_isWord_20 rfl rfl rfl ?_
    refine J_aload_n (i := 1) 1 22 dX9_isWord_21 rfl rfl rfl ?_
    obtain ⟨b2, hb2, h⟩ := some_of_bind h
    obtain ⟨q1, hq1, h⟩ := some_of_bind h
    refine J_cVi 25 dX9_isWord_22 rfl ykJ12_length (Or.inl q1180) q1181 q1182 (Nat.le_of_ble_eq_true rfl) (cs_int cs_nil) (by decide) [] hb2 (by decide) rfl rfl rfl (sJ12_length hγ l1  σ q1 hq1) ?_
    refine J_icmp_ge 58 28 dX9_isWord_25 (by decide) rfl (fun c3 => ?_) (fun c3 => ?_)
    · rw [if_pos c3] at h
      refine J_ic 59 dX9_isWord_58 rfl (1 : Int32) kic_1 ?_
      exact J_zret rfl (by decide) dX9_isWord_59 (retI h)
    · rw [if_neg c3] at h
      refine J_aload_n (i := 0) 0 29 dX9_isWord_28 rfl rfl rfl ?_
      obtain ⟨v5, hv5, h⟩ := some_of_bind h
      refine J_gR 32 dX9_isWord_29 rfl fk_r_316 hv5 ?_
      obtain ⟨v6, hv6, h⟩ := some_of_bind h
      refine J_gR 35 dX9_isWord_32 rfl fk_r_317 hv6 ?_
      refine J_aload_n (i := 0) 0 36 dX9_isWord_35 rfl rfl rfl ?_
      obtain ⟨v7, hv7, h⟩ := some_of_bind h
      refine J_gI 39 dX9_isWord_36 rfl fk_r_318 hv7 ?_
      refine J_iload_n (i := 2) 2 40 dX9_isWord_39 rfl rfl rfl ?_
      refine J_iadd 41 dX9_isWord_40 rfl ?_
      obtain ⟨v8, hv8, h⟩ := some_of_bind h
      refine J_bald 42 dX9_isWord_41 rfl hv8 ?_
      refine J_aload_n (i := 1) 1 43 dX9_isWord_42 rfl rfl rfl ?_
      refine J_iload_n (i := 2) 2 44 dX9_isWord_43 rfl rfl rfl ?_
      obtain ⟨b10, hb10, h⟩ := some_of_bind h
      obtain ⟨q9, hq9, h⟩ := some_of_bind h
      refine J_cVi 47 dX9_isWord_44 rfl ykJ12_charAt (Or.inl q1188) q1189 q1190 (Nat.le_of_ble_eq_true rfl) (cs_int cs_nil) (by decide) [.int l2] hb10 (by decide) rfl rfl rfl (sJ12_charAt hγ l1 l2 q1.2 q9 hq9) ?_
      refine J_icmp_eq 52 50 dX9_isWord_47 (by decide) rfl (fun c11 => ?_) (fun c11 => ?_)
      · rw [if_pos c11] at h
        refine J_iinc (i := 2) (v := l2 + (1 : Int32)) 2 55 [(2, 1, .int (l2 + (1 : Int32))), (0, 1, va_rf l0), (1, 1, va_rf l1)] dX9_isWord_52 rfl rfl (Nat.le_of_ble_eq_true rfl) (by rw [kic_1]) rfl ?_
        refine J_goto 20 dX9_isWord_55 (by decide) ?_
        refine J.pick [1, 2, 0] rfl ?_
        exact ih (l2 + (1 : Int32)) q9.2 h
      · rw [if_neg c11] at h
        refine J_ic 51 dX9_isWord_50 rfl (0 : Int32) kic_0 ?_
        exact J_zret rfl (by decide) dX9_isWord_51 (retI h)
def X9_isWord (l0 : Option Nat) (l1 : Option Nat) (σ : Hp) : Option (Int32 × Hp) :=
  (gI σ l0 [10, 23] 1).bind fun v1 =>
  (gI σ l0 [10, 23] 0).bind fun v2 =>
  (cT σ l1 34).bind fun b4 =>
  (J12_length l1  σ).bind fun q3 =>
  if (v1 - v2) = q3.1 then
    X9_isWord_c20 l0 l1  FUEL (0 : Int32) q3.2
  else
    some ((0 : Int32), q3.2)
set_option maxHeartbeats 4000000 in
theorem sX9_isWord {γ : GP} (hγ : GOK γ) (l0 : Option Nat) (l1 : Option Nat) (σ : Hp) (q : (Int32 × Hp)) (h : X9_isWord l0 l1 σ = some q) : Rn γ mX9_isWord yX9_isWord [va_rf l0, va_rf l1] (σ, .inr (some (.int q.1)), q.2) := by
  refine J_m hγ ykX9_isWord rfl [(1, va_rf l0), (1, va_rf l1)] (cats_r (cats_r cats_nil)) (Nat.le_of_ble_eq_true rfl) ?_
  show J γ mX9_isWord _ σ 0 [(0, 1, va_rf l0), (1, 1, va_rf l1)] []
  unfold X9_isWord at h
  refine J_aload_n (i := 0) 0 1 dX9_isWord_0 rfl rfl rfl ?_
  obtain ⟨v1, hv1, h⟩ := some_of_bind h
  refine J_gI 4 dX9_isWord_1 rfl fk_r_319 hv1 ?_
  refine J_aload_n (i := 0) 0 5 dX9_isWord_4 rfl rfl rfl ?_
  obtain ⟨v2, hv2, h⟩ := some_of_bind h
  refine J_gI 8 dX9_isWord_5 rfl fk_r_318 hv2 ?_
  refine J_isub 9 dX9_isWord_8 rfl ?_
  refine J_aload_n (i := 1) 1 10 dX9_isWord_9 rfl rfl rfl ?_
  obtain ⟨b4, hb4, h⟩ := some_of_bind h
  obtain ⟨q3, hq3, h⟩ := some_of_bind h
  refine J_cVi 13 dX9_isWord_10 rfl ykJ12_length (Or.inl q1180) q1181 q1182 (Nat.le_of_ble_eq_true rfl) (cs_int cs_nil) (by decide) [] hb4 (by decide) rfl rfl rfl (sJ12_length hγ l1  σ q3 hq3) ?_
  refine J_icmp_eq 18 16 dX9_isWord_13 (by decide) rfl (fun c5 => ?_) (fun c5 => ?_)
  · rw [if_pos c5] at h
    refine J_ic 19 dX9_isWord_18 rfl (0 : Int32) kic_0 ?_
    refine J_istore_n (i := 2) 20 [(2, 1, .int (0 : Int32)), (0, 1, va_rf l0), (1, 1, va_rf l1)] dX9_isWord_19 rfl rfl (Nat.le_of_ble_eq_true rfl) rfl ?_
    refine J.pick [1, 2, 0] rfl ?_
    refine jX9_isWord_c20 hγ l0 l1  FUEL (0 : Int32) q3.2 h
  · rw [if_neg c5] at h
    refine J_ic 17 dX9_isWord_16 rfl (0 : Int32) kic_0 ?_
    exact J_zret rfl (by decide) dX9_isWord_17 (retI h)
abbrev mJ7_init_3 : MP := (cJ7_init_3, "java/lang/Throwable", 5, (Option.none : Option FieldType), 1, "<init>", [])
theorem ykJ7_init_3 : YK yJ7_init_3 mJ7_init_3 4 := ⟨q1155, q143, ⟨by decide, by decide⟩, by decide +kernel, Nat.le_of_ble_eq_true rfl, by decide, rfl, rfl⟩
theorem pk_r_320 {nm9 : String} : POK "java/lang/Throwable" nm9 31 [11] 3 (.object "java/lang/String") := POK.one (by decide) rfl (Nat.le_of_ble_eq_true rfl) (Or.inl ⟨_, q689, Or.inl rfl⟩) rfl (by decide +kernel) (Or.inl rfl)
theorem pk_r_321 {nm9 : String} : POK "java/lang/Throwable" nm9 7 [11] 0 (.object "java/lang/Throwable") := POK.one (by decide) rfl (Nat.le_of_ble_eq_true rfl) (Or.inl ⟨_, q690, Or.inl rfl⟩) rfl (by decide +kernel) (Or.inl rfl)
theorem pk_r_322 {nm9 : String} : POK "java/lang/Throwable" nm9 24 [11] 2 (.object "java/util/List") := POK.one (by decide) rfl (Nat.le_of_ble_eq_true rfl) (Or.inl ⟨_, q692, Or.inl rfl⟩) rfl (by decide +kernel) (Or.inl rfl)
theorem pk_r_323 {nm9 : String} : POK "java/lang/Throwable" nm9 17 [11] 1 (.array (.object "java/lang/StackTraceElement")) := POK.one (by decide) rfl (Nat.le_of_ble_eq_true rfl) (Or.inl ⟨_, q691, Or.inl rfl⟩) rfl (by decide +kernel) (Or.inl rfl)
def J7_init_3_c41  (l0 : Option Nat) (l1 : Option Nat) (l2 : Option Nat) (l3 : Int32)  (σ : Hp) : Option Hp :=
  (pR σ l0 [11] 3 l1).bind fun σ1 =>
  (pR σ1 l0 [11] 0 l2).bind fun σ2 =>
  if l3 = 0 then
    (pR σ2 l0 [11] 2 none).bind fun σ4 =>
    some σ4
  else
    some σ2
set_option maxHeartbeats 4000000 in
theorem jJ7_init_3_c41 {γ : GP} {σ0 : Hp} {q : Hp} (hγ : GOK γ) (l0 : Option Nat) (l1 : Option Nat) (l2 : Option Nat) (l3 : Int32)   (σ : Hp) (h : J7_init_3_c41 l0 l1 l2 l3 σ = some q) : J γ mJ7_init_3 (σ0, .inr none, q) σ 41 [(0, 1, va_rf l0), (1, 1, va_rf l1), (2, 1, va_rf l2), (3, 1, .int l3)] [] := by
  unfold J7_init_3_c41 at h
  refine J_aload_n (i := 0) 0 42 dJ7_init_3_41 rfl rfl rfl ?_
  refine J_aload_n (i := 1) 1 43 dJ7_init_3_42 rfl rfl rfl ?_
  obtain ⟨σ1, hσ1, h⟩ := some_of_bind h
  refine J_pR rfl 46 dJ7_init_3_43 rfl pk_r_320 hσ1 ?_
  refine J_aload_n (i := 0) 0 47 dJ7_init_3_46 rfl rfl rfl ?_
  refine J_aload_n (i := 2) 2 48 dJ7_init_3_47 rfl rfl rfl ?_
  obtain ⟨σ2, hσ2, h⟩ := some_of_bind h
  refine J_pR rfl 51 dJ7_init_3_48 rfl pk_r_321 hσ2 ?_
  refine J_iload_n (i := 3) 3 52 dJ7_init_3_51 rfl rfl rfl ?_
  refine J_if_ne 60 55 dJ7_init_3_52 (by decide) rfl (fun c3 => ?_) (fun c3 => ?_)
  · rw [if_neg c3] at h
    exact J_vret rfl dJ7_init_3_60 (retV h)
  · rw [if_pos c3] at h
    refine J_aload_n (i := 0) 0 56 dJ7_init_3_55 rfl rfl rfl ?_
    refine J_null 57 dJ7_init_3_56 rfl ?_
    obtain ⟨σ4, hσ4, h⟩ := some_of_bind h
    refine J_pR rfl 60 dJ7_init_3_57 rfl pk_r_322 hσ4 ?_
    exact J_vret rfl dJ7_init_3_60 (retV h)
def J7_init_3 (l0 : Option Nat) (l1 : Option Nat) (l2 : Option Nat) (l3 : Int32) (l4 : Int32) (σ : Hp) : Option Hp :=
  l0.bind fun b1 =>
  (pR σ l0 [11] 0 l0).bind fun σ2 =>
  (pR σ2 l0 [11] 1 (hst σ2 3)).bind fun σ3 =>
  (pR σ3 l0 [11] 2 (hst σ3 4)).bind fun σ4 =>
  if l4 = 0 then
    (pR σ4 l0 [11] 1 none).bind fun σ6 =>
    J7_init_3_c41  l0 l1 l2 l3  σ6
  else
    none
set_option maxHeartbeats 4000000 in
theorem sJ7_init_3 {γ : GP} (hγ : GOK γ) (l0 : Option Nat) (l1 : Option Nat) (l2 : Option Nat) (l3 : Int32) (l4 : Int32) (σ : Hp) (q : Hp) (h : J7_init_3 l0 l1 l2 l3 l4 σ = some q) : Rn γ mJ7_init_3 yJ7_init_3 [va_rf l0, va_rf l1, va_rf l2, .int l3, .int l4] (σ, .inr none, q) := by
  refine J_m hγ ykJ7_init_3 rfl [(1, va_rf l0), (1, va_rf l1), (1, va_rf l2), (1, .int l3), (1, .int l4)] (cats_r (cats_r (cats_r (cats_i (cats_i cats_nil))))) (Nat.le_of_ble_eq_true rfl) ?_
  show J γ mJ7_init_3 _ σ 0 [(0, 1, va_rf l0), (1, 1, va_rf l1), (2, 1, va_rf l2), (3, 1, .int l3), (4, 1, .int l4)] []
  unfold J7_init_3 at h
  refine J_aload_n (i := 0) 0 1 dJ7_init_3_0 rfl rfl rfl ?_
  obtain ⟨b1, hb1, h⟩ := some_of_bind h
  refine J_oI hb1 q672 (Nat.le_of_ble_eq_true rfl) cs_nil (by decide) 4 dJ7_init_3_1 rfl ?_
  refine J_aload_n (i := 0) 0 5 dJ7_init_3_4 rfl rfl rfl ?_
  refine J_aload_n (i := 0) 0 6 dJ7_init_3_5 rfl rfl rfl ?_
  obtain ⟨σ2, hσ2, h⟩ := some_of_bind h
  refine J_pR rfl 9 dJ7_init_3_6 rfl pk_r_321 hσ2 ?_
  refine J_aload_n (i := 0) 0 10 dJ7_init_3_9 rfl rfl rfl ?_
  refine J_gets (k := 3) (by decide) q673 13 dJ7_init_3_10 rfl ?_
  obtain ⟨σ3, hσ3, h⟩ := some_of_bind h
  refine J_pR rfl 16 dJ7_init_3_13 rfl pk_r_323 hσ3 ?_
  refine J_aload_n (i := 0) 0 17 dJ7_init_3_16 rfl rfl rfl ?_
  refine J_gets (k := 4) (by decide) q675 20 dJ7_init_3_17 rfl ?_
  obtain ⟨σ4, hσ4, h⟩ := some_of_bind h
  refine J_pR rfl 23 dJ7_init_3_20 rfl pk_r_322 hσ4 ?_
  refine J_iload (i := 4) 4 25 dJ7_init_3_23 rfl rfl ?_
  refine J_if_eq 36 28 dJ7_init_3_25 (by decide) rfl (fun c5 => ?_) (fun c5 => ?_)
  · rw [if_pos c5] at h
    refine J_aload_n (i := 0) 0 37 dJ7_init_3_36 rfl rfl rfl ?_
    refine J_null 38 dJ7_init_3_37 rfl ?_
    obtain ⟨σ6, hσ6, h⟩ := some_of_bind h
    refine J_pR rfl 41 dJ7_init_3_38 rfl pk_r_323 hσ6 ?_
    refine J.pick [0, 1, 2, 3] rfl ?_
    exact jJ7_init_3_c41 hγ l0 l1 l2 l3  σ6 h
  · rw [if_neg c5] at h
    refine J_aload_n (i := 0) 0 29 dJ7_init_3_28 rfl rfl rfl ?_
    cases h
abbrev mJ8_init_2 : MP := (cJ8_init_2, "java/lang/Exception", 5, (Option.none : Option FieldType), 2, "<init>", [])
theorem ykJ8_init_2 : YK yJ8_init_2 mJ8_init_2 4 := ⟨q1152, q144, ⟨by decide, by decide⟩, by decide +kernel, Nat.le_of_ble_eq_true rfl, by decide, rfl, rfl⟩
def J8_init_2 (l0 : Option Nat) (l1 : Option Nat) (l2 : Option Nat) (l3 : Int32) (l4 : Int32) (σ : Hp) : Option Hp :=
  l0.bind fun b2 =>
  (J7_init_3 l0 l1 l2 l3 l4 σ).bind fun q1 =>
  some q1
set_option maxHeartbeats 4000000 in
theorem sJ8_init_2 {γ : GP} (hγ : GOK γ) (l0 : Option Nat) (l1 : Option Nat) (l2 : Option Nat) (l3 : Int32) (l4 : Int32) (σ : Hp) (q : Hp) (h : J8_init_2 l0 l1 l2 l3 l4 σ = some q) : Rn γ mJ8_init_2 yJ8_init_2 [va_rf l0, va_rf l1, va_rf l2, .int l3, .int l4] (σ, .inr none, q) := by
  refine J_m hγ ykJ8_init_2 rfl [(1, va_rf l0), (1, va_rf l1), (1, va_rf l2), (1, .int l3), (1, .int l4)] (cats_r (cats_r (cats_r (cats_i (cats_i cats_nil))))) (Nat.le_of_ble_eq_true rfl) ?_
  show J γ mJ8_init_2 _ σ 0 [(0, 1, va_rf l0), (1, 1, va_rf l1), (2, 1, va_rf l2), (3, 1, .int l3), (4, 1, .int l4)] []
  unfold J8_init_2 at h
  refine J_aload_n (i := 0) 0 1 dJ8_init_2_0 rfl rfl rfl ?_
  refine J_aload_n (i := 1) 1 2 dJ8_init_2_1 rfl rfl rfl ?_
  refine J_aload_n (i := 2) 2 3 dJ8_init_2_2 rfl rfl rfl ?_
  refine J_iload_n (i := 3) 3 4 dJ8_init_2_3 rfl rfl rfl ?_
  refine J_iload (i := 4) 4 6 dJ8_init_2_4 rfl rfl ?_
  obtain ⟨b2, hb2, h⟩ := some_of_bind h
  obtain ⟨q1, hq1, h⟩ := some_of_bind h
  refine J_cI 9 dJ8_init_2_6 rfl ykJ7_init_3 rfl (Or.inl q1153) q1154 rfl (Nat.le_of_ble_eq_true rfl) cs_nil (by decide) [va_rf l1, va_rf l2, .int l3, .int l4] hb2 rfl rfl (sJ7_init_3 hγ l0 l1 l2 l3 l4 σ q1 hq1) ?_
  exact J_vret rfl dJ8_init_2_9 (retV h)
abbrev mX11_init : MP := (cX11_init, "MissCurves$Wrong", 2, (Option.none : Option FieldType), 3, "<init>", [])
theorem ykX11_init : YK yX11_init mX11_init 1 := ⟨q1149, q158, ⟨by decide, by decide⟩, by decide +kernel, Nat.le_of_ble_eq_true rfl, by decide, rfl, rfl⟩
theorem pk_r_324 : POK "MissCurves$Wrong" "<init>" 7 [11] 6 .int := POK.one (by decide) rfl (Nat.le_of_ble_eq_true rfl) (Or.inl ⟨_, q1156, Or.inl rfl⟩) rfl (by decide +kernel) (Or.inr ⟨rfl, rfl, rfl, _, q1156, Or.inl rfl⟩)
def X11_init (l0 : Option Nat) (l1 : Int32) (σ : Hp) : Option Hp :=
  l0.bind fun b2 =>
  (J8_init_2 l0 none none (0 : Int32) (0 : Int32) σ).bind fun q1 =>
  (pI q1 l0 [11] 6 l1).bind fun σ3 =>
  some σ3
set_option maxHeartbeats 4000000 in
theorem sX11_init {γ : GP} (hγ : GOK γ) (l0 : Option Nat) (l1 : Int32) (σ : Hp) (q : Hp) (h : X11_init l0 l1 σ = some q) : Rn γ mX11_init yX11_init [va_rf l0, .int l1] (σ, .inr none, q) := by
  refine J_m hγ ykX11_init rfl [(1, va_rf l0), (1, .int l1)] (cats_r (cats_i cats_nil)) (Nat.le_of_ble_eq_true rfl) ?_
  show J γ mX11_init _ σ 0 [(0, 1, va_rf l0), (1, 1, .int l1)] []
  unfold X11_init at h
  refine J_aload_n (i := 0) 0 1 dX11_init_0 rfl rfl rfl ?_
  refine J_null 2 dX11_init_1 rfl ?_
  refine J_null 3 dX11_init_2 rfl ?_
  refine J_ic 4 dX11_init_3 rfl (0 : Int32) kic_0 ?_
  refine J_ic 5 dX11_init_4 rfl (0 : Int32) kic_0 ?_
  obtain ⟨b2, hb2, h⟩ := some_of_bind h
  obtain ⟨q1, hq1, h⟩ := some_of_bind h
  refine J_cI 8 dX11_init_5 rfl ykJ8_init_2 rfl (Or.inl q1150) q1151 rfl (Nat.le_of_ble_eq_true rfl) cs_nil (by decide) [va_rf none, va_rf none, .int (0 : Int32), .int (0 : Int32)] hb2 rfl rfl (sJ8_init_2 hγ l0 none none (0 : Int32) (0 : Int32) σ q1 hq1) ?_
  refine J_aload_n (i := 0) 0 9 dX11_init_8 rfl rfl rfl ?_
  refine J_iload_n (i := 1) 1 10 dX11_init_9 rfl rfl rfl ?_
  obtain ⟨σ3, hσ3, h⟩ := some_of_bind h
  refine J_pI 13 dX11_init_10 rfl pk_r_324 hσ3 ?_
  exact J_vret rfl dX11_init_13 (retV h)
abbrev mX9_must : MP := (cX9_must, "MissCurves$Reader", 2, (Option.none : Option FieldType), 4, "must", [])
theorem ykX9_must : YK yX9_must mX9_must 1 := ⟨q1137, q156, ⟨by decide, by decide⟩, by decide +kernel, Nat.le_of_ble_eq_true rfl, by decide, rfl, rfl⟩
def X9_must (l0 : Option Nat) (l1 : Int32) (σ : Hp) : Option ((Nat ⊕ Unit) × Hp) :=
  if l1 = 0 then
    (gI (wN σ 11 0 7) l0 [10, 23] 0).bind fun v2 =>
    (some (hsz σ)).bind fun b4 =>
    (X11_init (some (hsz σ)) v2 (wN σ 11 0 7)).bind fun q3 =>
    tW (some (hsz σ)) q3
  else
    some (Sum.inr (), σ)
set_option maxHeartbeats 4000000 in
theorem sX9_must {γ : GP} (hγ : GOK γ) (l0 : Option Nat) (l1 : Int32) (σ : Hp) (q : ((Nat ⊕ Unit) × Hp)) (h : X9_must l0 l1 σ = some q) : Rn γ mX9_must yX9_must [va_rf l0, .int l1] (σ, fxV q.1, q.2) := by
  refine J_mX hγ ykX9_must rfl [(1, va_rf l0), (1, .int l1)] (cats_r (cats_i cats_nil)) (Nat.le_of_ble_eq_true rfl) ?_
  show J γ mX9_must _ σ 0 [(0, 1, va_rf l0), (1, 1, .int l1)] []
  unfold X9_must at h
  refine J_iload_n (i := 1) 1 1 dX9_must_0 rfl rfl rfl ?_
  refine J_if_ne 16 4 dX9_must_1 (by decide) rfl (fun c1 => ?_) (fun c1 => ?_)
  · rw [if_neg c1] at h
    exact J_vret rfl dX9_must_16 (retVX h)
  · rw [if_pos c1] at h
    refine J_new (c9 := 11) (nsl := 7) rfl (by decide) (by decide +kernel) q1138 q1139 q158 7 dX9_must_4 rfl ?_
    refine J_dupr 8 dX9_must_7 rfl ?_
    refine J_aload_n (i := 0) 0 9 dX9_must_8 rfl rfl rfl ?_
    obtain ⟨v2, hv2, h⟩ := some_of_bind h
    refine J_gI 12 dX9_must_9 rfl fk_r_318 hv2 ?_
    obtain ⟨b4, hb4, h⟩ := some_of_bind h
    obtain ⟨q3, hq3, h⟩ := some_of_bind h
    refine J_cI 15 dX9_must_12 rfl ykX11_init rfl (Or.inl q1147) q1148 rfl (Nat.le_of_ble_eq_true rfl) (cs_rf cs_nil) (by decide) [.int v2] hb4 rfl rfl (sX11_init hγ (some (hsz σ)) v2 (wN σ 11 0 7) q3 hq3) ?_
    obtain ⟨b5, hb5, ht, hq⟩ := tW_of h
    exact J_athrow hb5 dX9_must_15 (JT_out rfl ht (thrV hq))
abbrev mX9_next : MP := (cX9_next, "MissCurves$Reader", 3, (Option.none : Option FieldType), 1, "next", [])
theorem ykX9_next : YK yX9_next mX9_next 0 := ⟨q1125, q156, ⟨by decide, by decide⟩, by decide +kernel, Nat.le_of_ble_eq_true rfl, by decide, rfl, rfl⟩
theorem fk_r_325 : FOK "MissCurves$Reader" 46 [0] 15 isI := FOK.one (by decide) rfl (Nat.le_of_ble_eq_true rfl) (Or.inr ⟨_, q398⟩) rfl
theorem pk_r_326 {nm9 : String} : POK "MissCurves$Reader" nm9 42 [10, 23] 0 .int := POK.cons (by decide) rfl (Nat.le_of_ble_eq_true rfl) (Or.inl ⟨_, q1075, Or.inl rfl⟩) rfl (by decide +kernel) (Or.inl rfl) (POK.one (by decide) rfl (Nat.le_of_ble_eq_true rfl) (Or.inl ⟨_, q1075, Or.inl rfl⟩) rfl (by decide +kernel) (Or.inl rfl))
theorem pk_r_327 {nm9 : String} : POK "MissCurves$Reader" nm9 49 [10, 23] 1 .int := POK.cons (by decide) rfl (Nat.le_of_ble_eq_true rfl) (Or.inl ⟨_, q1078, Or.inl rfl⟩) rfl (by decide +kernel) (Or.inl rfl) (POK.one (by decide) rfl (Nat.le_of_ble_eq_true rfl) (Or.inl ⟨_, q1078, Or.inl rfl⟩) rfl (by decide +kernel) (Or.inl rfl))
def X9_next_c8 (l0 : Option Nat) (k52 : Hp → Option Hp) : Nat → Hp → Option Hp
  | 0, _ => none
  | n + 1, σ =>
    (gI σ l0 [10, 23] 0).bind fun v1 =>
    (gR σ l0 [10, 23] 7).bind fun v2 =>
    (gI σ v2 [0] 15).bind fun v3 =>
    if v3 ≤ v1 then
      k52  σ
    else
      (gR σ l0 [10, 23] 7).bind fun v5 =>
      (gR σ v5 [0] 14).bind fun v6 =>
      (gI σ l0 [10, 23] 0).bind fun v7 =>
      (aI 2 σ v6 v7).bind fun v8 =>
      if v8 = (32 : Int32) then
        (gI σ l0 [10, 23] 0).bind fun v10 =>
        (pI σ l0 [10, 23] 0 (v10 + (1 : Int32))).bind fun σ11 =>
        X9_next_c8 l0 k52 n  σ11
      else
        k52  σ
set_option maxHeartbeats 4000000 in
theorem jX9_next_c8 {γ : GP} {σ0 : Hp} {q : Hp} (hγ : GOK γ) (l0 : Option Nat) {k52 : Hp → Option Hp} (hk52 : ∀  (σ : Hp), k52  σ = some q → J γ mX9_next (σ0, .inr none, q) σ 52 [(0, 1, va_rf l0)] []) : ∀ (n : Nat)  (σ : Hp), X9_next_c8 l0 k52 n  σ = some q → J γ mX9_next (σ0, .inr none, q) σ 8 [(0, 1, va_rf l0)] [] := by
  intro n
  induction n with
  | zero => intro  σ h; exact nomatch (show none = some q from h)
  | succ n ih =>
    intro  σ h
    rw [X9_next_c8] at h
    refine J_aload_n (i := 0) 0 9 dX9_next_8 rfl rfl rfl ?_
    obtain ⟨v1, hv1, h⟩ := some_of_bind h
    refine J_gI 12 dX9_next_9 rfl fk_r_318 hv1 ?_
    refine J_aload_n (i := 0) 0 13 dX9_next_12 rfl rfl rfl ?_
    obtain ⟨v2, hv2, h⟩ := some_of_bind h
    refine J_gR 16 dX9_next_13 rfl fk_r_316 hv2 ?_
    obtain ⟨v3, hv3, h⟩ := some_of_bind h
    refine J_gI 19 dX9_next_16 rfl fk_r_325 hv3 ?_
    refine J_icmp_ge 52 22 dX9_next_19 (by decide) rfl (fun c4 => ?_) (fun c4 => ?_)
    · rw [if_pos c4] at h
      exact hk52  σ h
    · rw [if_neg c4] at h
      refine J_aload_n (i := 0) 0 23 dX9_next_22 rfl rfl rfl ?_
      obtain ⟨v5, hv5, h⟩ := some_of_bind h
      refine J_gR 26 dX9_next_23 rfl fk_r_316 hv5 ?_
      obtain ⟨v6, hv6, h⟩ := some_of_bind h
      refine J_gR 29 dX9_next_26 rfl fk_r_317 hv6 ?_
      refine J_aload_n (i := 0) 0 30 dX9_next_29 rfl rfl rfl ?_
      obtain ⟨v7, hv7, h⟩ := some_of_bind h
      refine J_gI 33 dX9_next_30 rfl fk_r_318 hv7 ?_
      obtain ⟨v8, hv8, h⟩ := some_of_bind h
      refine J_bald 34 dX9_next_33 rfl hv8 ?_
      refine J_bipush 36 dX9_next_34 rfl (32 : Int32) kbp_32 ?_
      refine J_icmp_ne 52 39 dX9_next_36 (by decide) rfl (fun c9 => ?_) (fun c9 => ?_)
      · rw [if_neg c9] at h
        exact hk52  σ h
      · rw [if_pos c9] at h
        refine J_aload_n (i := 0) 0 40 dX9_next_39 rfl rfl rfl ?_
        refine J_dupr 41 dX9_next_40 rfl ?_
        obtain ⟨v10, hv10, h⟩ := some_of_bind h
        refine J_gI 44 dX9_next_41 rfl fk_r_318 hv10 ?_
        refine J_ic 45 dX9_next_44 rfl (1 : Int32) kic_1 ?_
        refine J_iadd 46 dX9_next_45 rfl ?_
        obtain ⟨σ11, hσ11, h⟩ := some_of_bind h
        refine J_pI 49 dX9_next_46 rfl pk_r_326 hσ11 ?_
        refine J_goto 8 dX9_next_49 (by decide) ?_
        exact ih  σ11 h
def X9_next_c175 (k117 : Hp → Option Hp) (l0 : Option Nat) (l1 : Int32) (l2 : Int32)  (σ : Hp) : Option Hp :=
  (gI σ l0 [10, 23] 1).bind fun v1 =>
  (pI σ l0 [10, 23] 1 (v1 + (1 : Int32))).bind fun σ2 =>
  k117  σ2
set_option maxHeartbeats 4000000 in
theorem jX9_next_c175 {γ : GP} {σ0 : Hp} {q : Hp} (hγ : GOK γ) (l0 : Option Nat) (l1 : Int32) (l2 : Int32) {k117 : Hp → Option Hp} (hk117 : ∀  (σ : Hp), k117  σ = some q → J γ mX9_next (σ0, .inr none, q) σ 117 [(0, 1, va_rf l0), (1, 1, .int l1), (2, 1, .int l2)] [])  (σ : Hp) (h : X9_next_c175 k117 l0 l1 l2 σ = some q) : J γ mX9_next (σ0, .inr none, q) σ 175 [(0, 1, va_rf l0), (1, 1, .int l1), (2, 1, .int l2)] [] := by
  unfold X9_next_c175 at h
  refine J_aload_n (i := 0) 0 176 dX9_next_175 rfl rfl rfl ?_
  refine J_dupr 177 dX9_next_176 rfl ?_
  obtain ⟨v1, hv1, h⟩ := some_of_bind h
  refine J_gI 180 dX9_next_177 rfl fk_r_319 hv1 ?_
  refine J_ic 181 dX9_next_180 rfl (1 : Int32) kic_1 ?_
  refine J_iadd 182 dX9_next_181 rfl ?_
  obtain ⟨σ2, hσ2, h⟩ := some_of_bind h
  refine J_pI 185 dX9_next_182 rfl pk_r_327 hσ2 ?_
  refine J_goto 117 dX9_next_185 (by decide) ?_
  exact hk117  σ2 h
def X9_next_c153 (k117 : Hp → Option Hp) (l0 : Option Nat) (l1 : Int32) (l2 : Int32)  (σ : Hp) : Option Hp :=
  if l2 = 0 then
    some σ
  else
    (gR σ l0 [10, 23] 7).bind fun v2 =>
    (gR σ v2 [0] 14).bind fun v3 =>
    (gI σ l0 [10, 23] 1).bind fun v4 =>
    (aI 2 σ v3 v4).bind fun v5 =>
    (X0_isDigit v5 σ).bind fun q6 =>
    if q6.1 = 0 then
      some q6.2
    else
      X9_next_c175 k117 l0 l1 l2  q6.2
set_option maxHeartbeats 4000000 in
theorem jX9_next_c153 {γ : GP} {σ0 : Hp} {q : Hp} (hγ : GOK γ) (l0 : Option Nat) (l1 : Int32) (l2 : Int32) {k117 : Hp → Option Hp} (hk117 : ∀  (σ : Hp), k117  σ = some q → J γ mX9_next (σ0, .inr none, q) σ 117 [(0, 1, va_rf l0), (1, 1, .int l1), (2, 1, .int l2)] [])  (σ : Hp) (h : X9_next_c153 k117 l0 l1 l2 σ = some q) : J γ mX9_next (σ0, .inr none, q) σ 153 [(0, 1, va_rf l0), (1, 1, .int l1), (2, 1, .int l2)] [] := by
  unfold X9_next_c153 at h
  refine J_iload_n (i := 2) 2 154 dX9_next_153 rfl rfl rfl ?_
  refine J_if_eq 188 157 dX9_next_154 (by decide) rfl (fun c1 => ?_) (fun c1 => ?_)
  · rw [if_pos c1] at h
    exact J_vret rfl dX9_next_188 (retV h)
  · rw [if_neg c1] at h
    refine J_aload_n (i := 0) 0 158 dX9_next_157 rfl rfl rfl ?_
    obtain ⟨v2, hv2, h⟩ := some_of_bind h
    refine J_gR 161 dX9_next_158 rfl fk_r_316 hv2 ?_
    obtain ⟨v3, hv3, h⟩ := some_of_bind h
    refine J_gR 164 dX9_next_161 rfl fk_r_317 hv3 ?_
    refine J_aload_n (i := 0) 0 165 dX9_next_164 rfl rfl rfl ?_
    obtain ⟨v4, hv4, h⟩ := some_of_bind h
    refine J_gI 168 dX9_next_165 rfl fk_r_319 hv4 ?_
    obtain ⟨v5, hv5, h⟩ := some_of_bind h
    refine J_bald 169 dX9_next_168 rfl hv5 ?_
    obtain ⟨q6, hq6, h⟩ := some_of_bind h
    refine J_cSi 172 dX9_next_169 rfl ykX0_isDigit (Or.inr ⟨_, q1129⟩) q1130 (Nat.le_of_ble_eq_true rfl) cs_nil (by decide) [.int v5] rfl rfl (sX0_isDigit hγ v5 σ q6 hq6) ?_
    refine J_if_eq 188 175 dX9_next_172 (by decide) rfl (fun c7 => ?_) (fun c7 => ?_)
    · rw [if_pos c7] at h
      exact J_vret rfl dX9_next_188 (retV h)
    · rw [if_neg c7] at h
      exact jX9_next_c175 hγ l0 l1 l2 hk117  q6.2 h
def X9_next_c117 (l0 : Option Nat) (l1 : Int32) (l2 : Int32)  : Nat → Hp → Option Hp
  | 0, _ => none
  | n + 1, σ =>
    (gI σ l0 [10, 23] 1).bind fun v1 =>
    (gR σ l0 [10, 23] 7).bind fun v2 =>
    (gI σ v2 [0] 15).bind fun v3 =>
    if v3 ≤ v1 then
      some σ
    else
      if l1 = 0 then
        X9_next_c153 (X9_next_c117 l0 l1 l2 n) l0 l1 l2  σ
      else
        (gR σ l0 [10, 23] 7).bind fun v6 =>
        (gR σ v6 [0] 14).bind fun v7 =>
        (gI σ l0 [10, 23] 1).bind fun v8 =>
        (aI 2 σ v7 v8).bind fun v9 =>
        (X0_isLetter v9 σ).bind fun q10 =>
        if q10.1 = 0 then
          X9_next_c153 (X9_next_c117 l0 l1 l2 n) l0 l1 l2  q10.2
        else
          X9_next_c175 (X9_next_c117 l0 l1 l2 n) l0 l1 l2  q10.2
set_option maxHeartbeats 4000000 in
theorem jX9_next_c117 {γ : GP} {σ0 : Hp} {q : Hp} (hγ : GOK γ) (l0 : Option Nat) (l1 : Int32) (l2 : Int32)  : ∀ (n : Nat)  (σ : Hp), X9_next_c117 l0 l1 l2 n  σ = some q → J γ mX9_next (σ0, .inr none, q) σ 117 [(0, 1, va_rf l0), (1, 1, .int l1), (2, 1, .int l2)] [] := by
  intro n
  induction n with
  | zero => intro  σ h; exact nomatch (show none = some q from h)
  | succ n ih =>
    intro  σ h
    rw [X9_next_c117] at h
    refine J_aload_n (i := 0) 0 118 dX9_next_117 rfl rfl rfl ?_
    obtain ⟨v1, hv1, h⟩ := some_of_bind h
    refine J_gI 121 dX9_next_118 rfl fk_r_319 hv1 ?_
    refine J_aload_n (i := 0) 0 122 dX9_next_121 rfl rfl rfl ?_
    obtain ⟨v2, hv2, h⟩ := some_of_bind h
    refine J_gR 125 dX9_next_122 rfl fk_r_316 hv2 ?_
    obtain ⟨v3, hv3, h⟩ := some_of_bind h
    refine J_gI 128 dX9_next_125 rfl fk_r_325 hv3 ?_
    refine J_icmp_ge 188 131 dX9_next_128 (by decide) rfl (fun c4 => ?_) (fun c4 => ?_)
    · rw [if_pos c4] at h
      exact J_vret rfl dX9_next_188 (retV h)
    · rw [if_neg c4] at h
      refine J_iload_n (i := 1) 1 132 dX9_next_131 rfl rfl rfl ?_
      refine J_if_eq 153 135 dX9_next_132 (by decide) rfl (fun c5 => ?_) (fun c5 => ?_)
      · rw [if_pos c5] at h
        exact jX9_next_c153 hγ l0 l1 l2 ih  σ h
      · rw [if_neg c5] at h
        refine J_aload_n (i := 0) 0 136 dX9_next_135 rfl rfl rfl ?_
        obtain ⟨v6, hv6, h⟩ := some_of_bind h
        refine J_gR 139 dX9_next_136 rfl fk_r_316 hv6 ?_
        obtain ⟨v7, hv7, h⟩ := some_of_bind h
        refine J_gR 142 dX9_next_139 rfl fk_r_317 hv7 ?_
        refine J_aload_n (i := 0) 0 143 dX9_next_142 rfl rfl rfl ?_
        obtain ⟨v8, hv8, h⟩ := some_of_bind h
        refine J_gI 146 dX9_next_143 rfl fk_r_319 hv8 ?_
        obtain ⟨v9, hv9, h⟩ := some_of_bind h
        refine J_bald 147 dX9_next_146 rfl hv9 ?_
        obtain ⟨q10, hq10, h⟩ := some_of_bind h
        refine J_cSi 150 dX9_next_147 rfl ykX0_isLetter (Or.inr ⟨_, q1126⟩) q1127 (Nat.le_of_ble_eq_true rfl) cs_nil (by decide) [.int v9] rfl rfl (sX0_isLetter hγ v9 σ q10 hq10) ?_
        refine J_if_ne 175 153 dX9_next_150 (by decide) rfl (fun c11 => ?_) (fun c11 => ?_)
        · rw [if_neg c11] at h
          exact jX9_next_c175 hγ l0 l1 l2 ih  q10.2 h
        · rw [if_pos c11] at h
          exact jX9_next_c153 hγ l0 l1 l2 ih  q10.2 h
def X9_next_c52  (l0 : Option Nat)  (σ : Hp) : Option Hp :=
  (gI σ l0 [10, 23] 0).bind fun v1 =>
  (pI σ l0 [10, 23] 1 v1).bind fun σ2 =>
  (gI σ2 l0 [10, 23] 1).bind fun v3 =>
  (gR σ2 l0 [10, 23] 7).bind fun v4 =>
  (gI σ2 v4 [0] 15).bind fun v5 =>
  if v3 = v5 then
    some σ2
  else
    (gR σ2 l0 [10, 23] 7).bind fun v7 =>
    (gR σ2 v7 [0] 14).bind fun v8 =>
    (gI σ2 l0 [10, 23] 1).bind fun v9 =>
    (aI 2 σ2 v8 v9).bind fun v10 =>
    (X0_isLetter v10 σ2).bind fun q11 =>
    (gR q11.2 l0 [10, 23] 7).bind fun v12 =>
    (gR q11.2 v12 [0] 14).bind fun v13 =>
    (gI q11.2 l0 [10, 23] 1).bind fun v14 =>
    (aI 2 q11.2 v13 v14).bind fun v15 =>
    (X0_isDigit v15 q11.2).bind fun q16 =>
    (gI q16.2 l0 [10, 23] 1).bind fun v17 =>
    (pI q16.2 l0 [10, 23] 1 (v17 + (1 : Int32))).bind fun σ18 =>
    X9_next_c117 l0 q11.1 q16.1  FUEL  σ18
set_option maxHeartbeats 4000000 in
theorem jX9_next_c52 {γ : GP} {σ0 : Hp} {q : Hp} (hγ : GOK γ) (l0 : Option Nat)   (σ : Hp) (h : X9_next_c52 l0 σ = some q) : J γ mX9_next (σ0, .inr none, q) σ 52 [(0, 1, va_rf l0)] [] := by
  unfold X9_next_c52 at h
  refine J_aload_n (i := 0) 0 53 dX9_next_52 rfl rfl rfl ?_
  refine J_aload_n (i := 0) 0 54 dX9_next_53 rfl rfl rfl ?_
  obtain ⟨v1, hv1, h⟩ := some_of_bind h
  refine J_gI 57 dX9_next_54 rfl fk_r_318 hv1 ?_
  obtain ⟨σ2, hσ2, h⟩ := some_of_bind h
  refine J_pI 60 dX9_next_57 rfl pk_r_327 hσ2 ?_
  refine J_aload_n (i := 0) 0 61 dX9_next_60 rfl rfl rfl ?_
  obtain ⟨v3, hv3, h⟩ := some_of_bind h
  refine J_gI 64 dX9_next_61 rfl fk_r_319 hv3 ?_
  refine J_aload_n (i := 0) 0 65 dX9_next_64 rfl rfl rfl ?_
  obtain ⟨v4, hv4, h⟩ := some_of_bind h
  refine J_gR 68 dX9_next_65 rfl fk_r_316 hv4 ?_
  obtain ⟨v5, hv5, h⟩ := some_of_bind h
  refine J_gI 71 dX9_next_68 rfl fk_r_325 hv5 ?_
  refine J_icmp_ne 75 74 dX9_next_71 (by decide) rfl (fun c6 => ?_) (fun c6 => ?_)
  · rw [if_neg c6] at h
    refine J_aload_n (i := 0) 0 76 dX9_next_75 rfl rfl rfl ?_
    obtain ⟨v7, hv7, h⟩ := some_of_bind h
    refine J_gR 79 dX9_next_76 rfl fk_r_316 hv7 ?_
    obtain ⟨v8, hv8, h⟩ := some_of_bind h
    refine J_gR 82 dX9_next_79 rfl fk_r_317 hv8 ?_
    refine J_aload_n (i := 0) 0 83 dX9_next_82 rfl rfl rfl ?_
    obtain ⟨v9, hv9, h⟩ := some_of_bind h
    refine J_gI 86 dX9_next_83 rfl fk_r_319 hv9 ?_
    obtain ⟨v10, hv10, h⟩ := some_of_bind h
    refine J_bald 87 dX9_next_86 rfl hv10 ?_
    obtain ⟨q11, hq11, h⟩ := some_of_bind h
    refine J_cSi 90 dX9_next_87 rfl ykX0_isLetter (Or.inr ⟨_, q1126⟩) q1127 (Nat.le_of_ble_eq_true rfl) cs_nil (by decide) [.int v10] rfl rfl (sX0_isLetter hγ v10 σ2 q11 hq11) ?_
    refine J_istore_n (i := 1) 91 [(1, 1, .int q11.1), (0, 1, va_rf l0)] dX9_next_90 rfl rfl (Nat.le_of_ble_eq_true rfl) rfl ?_
    refine J_aload_n (i := 0) 1 92 dX9_next_91 rfl rfl rfl ?_
    obtain ⟨v12, hv12, h⟩ := some_of_bind h
    refine J_gR 95 dX9_next_92 rfl fk_r_316 hv12 ?_
    obtain ⟨v13, hv13, h⟩ := some_of_bind h
    refine J_gR 98 dX9_next_95 rfl fk_r_317 hv13 ?_
    refine J_aload_n (i := 0) 1 99 dX9_next_98 rfl rfl rfl ?_
    obtain ⟨v14, hv14, h⟩ := some_of_bind h
    refine J_gI 102 dX9_next_99 rfl fk_r_319 hv14 ?_
    obtain ⟨v15, hv15, h⟩ := some_of_bind h
    refine J_bald 103 dX9_next_102 rfl hv15 ?_
    obtain ⟨q16, hq16, h⟩ := some_of_bind h
    refine J_cSi 106 dX9_next_103 rfl ykX0_isDigit (Or.inr ⟨_, q1129⟩) q1130 (Nat.le_of_ble_eq_true rfl) cs_nil (by decide) [.int v15] rfl rfl (sX0_isDigit hγ v15 q11.2 q16 hq16) ?_
    refine J_istore_n (i := 2) 107 [(2, 1, .int q16.1), (1, 1, .int q11.1), (0, 1, va_rf l0)] dX9_next_106 rfl rfl (Nat.le_of_ble_eq_true rfl) rfl ?_
    refine J_aload_n (i := 0) 2 108 dX9_next_107 rfl rfl rfl ?_
    refine J_dupr 109 dX9_next_108 rfl ?_
    obtain ⟨v17, hv17, h⟩ := some_of_bind h
    refine J_gI 112 dX9_next_109 rfl fk_r_319 hv17 ?_
    refine J_ic 113 dX9_next_112 rfl (1 : Int32) kic_1 ?_
    refine J_iadd 114 dX9_next_113 rfl ?_
    obtain ⟨σ18, hσ18, h⟩ := some_of_bind h
    refine J_pI 117 dX9_next_114 rfl pk_r_327 hσ18 ?_
    refine J.pick [2, 1, 0] rfl ?_
    refine jX9_next_c117 hγ l0 q11.1 q16.1  FUEL  σ18 h
  · rw [if_pos c6] at h
    exact J_vret rfl dX9_next_74 (retV h)
def X9_next (l0 : Option Nat) (σ : Hp) : Option Hp :=
  (gI σ l0 [10, 23] 1).bind fun v1 =>
  (pI σ l0 [10, 23] 0 v1).bind fun σ2 =>
  X9_next_c8 l0 (fun τ3 =>
    X9_next_c52  l0  τ3) FUEL  σ2
set_option maxHeartbeats 4000000 in
theorem sX9_next {γ : GP} (hγ : GOK γ) (l0 : Option Nat) (σ : Hp) (q : Hp) (h : X9_next l0 σ = some q) : Rn γ mX9_next yX9_next [va_rf l0] (σ, .inr none, q) := by
  refine J_m hγ ykX9_next rfl [(1, va_rf l0)] (cats_r cats_nil) (Nat.le_of_ble_eq_true rfl) ?_
  show J γ mX9_next _ σ 0 [(0, 1, va_rf l0)] []
  unfold X9_next at h
  refine J_aload_n (i := 0) 0 1 dX9_next_0 rfl rfl rfl ?_
  refine J_aload_n (i := 0) 0 2 dX9_next_1 rfl rfl rfl ?_
  obtain ⟨v1, hv1, h⟩ := some_of_bind h
  refine J_gI 5 dX9_next_2 rfl fk_r_319 hv1 ?_
  obtain ⟨σ2, hσ2, h⟩ := some_of_bind h
  refine J_pI 8 dX9_next_5 rfl pk_r_326 hσ2 ?_
  refine jX9_next_c8 hγ l0 (fun τ3 h => ?_) FUEL  σ2 h
  · exact jX9_next_c52 hγ l0  τ3 h
abbrev mX9_accept : MP := (cX9_accept, "MissCurves$Reader", 3, (Option.some FieldType.boolean), 7, "accept", [])
theorem ykX9_accept : YK yX9_accept mX9_accept 1 := ⟨q1237, q156, ⟨by decide, by decide⟩, by decide +kernel, Nat.le_of_ble_eq_true rfl, by decide, rfl, rfl⟩
def X9_accept (l0 : Option Nat) (l1 : Option Nat) (σ : Hp) : Option (Int32 × Hp) :=
  (cT2 σ l0 10 23).bind fun b2 =>
  (X9_isWord l0 l1 σ).bind fun q1 =>
  if q1.1 = 0 then
    rZ q1.1 q1.2
  else
    (cT2 q1.2 l0 10 23).bind fun b6 =>
    (X9_next l0  q1.2).bind fun q5 =>
    rZ q1.1 q5
set_option maxHeartbeats 4000000 in
theorem sX9_accept {γ : GP} (hγ : GOK γ) (l0 : Option Nat) (l1 : Option Nat) (σ : Hp) (q : (Int32 × Hp)) (h : X9_accept l0 l1 σ = some q) : Rn γ mX9_accept yX9_accept [va_rf l0, va_rf l1] (σ, .inr (some (.int q.1)), q.2) := by
  refine J_m hγ ykX9_accept rfl [(1, va_rf l0), (1, va_rf l1)] (cats_r (cats_r cats_nil)) (Nat.le_of_ble_eq_true rfl) ?_
  show J γ mX9_accept _ σ 0 [(0, 1, va_rf l0), (1, 1, va_rf l1)] []
  unfold X9_accept at h
  refine J_aload_n (i := 0) 0 1 dX9_accept_0 rfl rfl rfl ?_
  refine J_aload_n (i := 1) 1 2 dX9_accept_1 rfl rfl rfl ?_
  obtain ⟨b2, hb2, h⟩ := some_of_bind h
  obtain ⟨q1, hq1, h⟩ := some_of_bind h
  refine J_cWi 5 dX9_accept_2 rfl ykX9_isWord (Or.inl q1174) q1175 (Nat.le_of_ble_eq_true rfl) cs_nil (by decide) [va_rf l1] (RC.two hb2 (by decide) (by decide) rfl rfl q1177 q1178) rfl rfl (sX9_isWord hγ l0 l1 σ q1 hq1) ?_
  refine J_istore_n (i := 2) 6 [(2, 1, .int q1.1), (0, 1, va_rf l0), (1, 1, va_rf l1)] dX9_accept_5 rfl rfl (Nat.le_of_ble_eq_true rfl) rfl ?_
  refine J_iload_n (i := 2) 0 7 dX9_accept_6 rfl rfl rfl ?_
  refine J_if_eq 14 10 dX9_accept_7 (by decide) rfl (fun c3 => ?_) (fun c3 => ?_)
  · rw [if_pos c3] at h
    refine J_iload_n (i := 2) 0 15 dX9_accept_14 rfl rfl rfl ?_
    exact J_zret rfl (ite_some h).1 dX9_accept_15 (retZ h)
  · rw [if_neg c3] at h
    refine J_aload_n (i := 0) 1 11 dX9_accept_10 rfl rfl rfl ?_
    obtain ⟨b6, hb6, h⟩ := some_of_bind h
    obtain ⟨q5, hq5, h⟩ := some_of_bind h
    refine J_cWv 14 dX9_accept_11 rfl ykX9_next (Or.inl q1120) q1121 (Nat.le_of_ble_eq_true rfl) cs_nil (by decide) [] (RC.two hb6 (by decide) (by decide) rfl rfl q1123 q1124) rfl rfl (sX9_next hγ l0  q1.2 q5 hq5) ?_
    refine J_iload_n (i := 2) 0 15 dX9_accept_14 rfl rfl rfl ?_
    exact J_zret rfl (ite_some h).1 dX9_accept_15 (retZ h)
abbrev mX9_number : MP := (cX9_number, "MissCurves$Reader", 4, (Option.some FieldType.int), 5, "number", [])
theorem ykX9_number : YK yX9_number mX9_number 1 := ⟨q1250, q156, ⟨by decide, by decide⟩, by decide +kernel, Nat.le_of_ble_eq_true rfl, by decide, rfl, rfl⟩
def X9_number_c48 (l0 : Option Nat) (l1 : Int32) (k85 : Int32 → Hp → Option ((Nat ⊕ Int32) × Hp)) : Nat → Int32 → Int32 → Hp → Option ((Nat ⊕ Int32) × Hp)
  | 0, _, _, _ => none
  | n + 1, l2, l3, σ =>
    (gI σ l0 [10, 23] 1).bind fun v1 =>
    if v1 ≤ l3 then
      k85 l2 σ
    else
      if l1 < l2 then
        k85 l2 σ
      else
        (gR σ l0 [10, 23] 7).bind fun v4 =>
        (gR σ v4 [0] 14).bind fun v5 =>
        (aI 2 σ v5 l3).bind fun v6 =>
        X9_number_c48 l0 l1 k85 n ((((10 : Int32) * l2) + v6) - (48 : Int32)) (l3 + (1 : Int32)) σ
set_option maxHeartbeats 4000000 in
theorem jX9_number_c48 {γ : GP} {σ0 : Hp} {q : ((Nat ⊕ Int32) × Hp)} (hγ : GOK γ) (l0 : Option Nat) (l1 : Int32) {k85 : Int32 → Hp → Option ((Nat ⊕ Int32) × Hp)} (hk85 : ∀ (l2 : Int32) (σ : Hp), k85 l2 σ = some q → J γ mX9_number (σ0, fxI q.1, q.2) σ 85 [(0, 1, va_rf l0), (1, 1, .int l1), (2, 1, .int l2)] []) : ∀ (n : Nat) (l2 : Int32) (l3 : Int32) (σ : Hp), X9_number_c48 l0 l1 k85 n l2 l3 σ = some q → J γ mX9_number (σ0, fxI q.1, q.2) σ 48 [(0, 1, va_rf l0), (1, 1, .int l1), (2, 1, .int l2), (3, 1, .int l3)] [] := by
  intro n
  induction n with
  | zero => intro l2 l3 σ h; exact nomatch (show none = some q from h)
  | succ n ih =>
    intro l2 l3 σ h
    rw [X9_number_c48] at h
    refine J_iload_n (i := 3) 3 49 dX9_number_48 rfl rfl rfl ?_
    refine J_aload_n (i := 0) 0 50 dX9_number_49 rfl rfl rfl ?_
    obtain ⟨v1, hv1, h⟩ := some_of_bind h
    refine J_gI 53 dX9_number_50 rfl fk_r_319 hv1 ?_
    refine J_icmp_ge 85 56 dX9_number_53 (by decide) rfl (fun c2 => ?_) (fun c2 => ?_)
    · rw [if_pos c2] at h
      refine J.pick [0, 1, 2] rfl ?_
      exact hk85 l2 σ h
    · rw [if_neg c2] at h
      refine J_iload_n (i := 2) 2 57 dX9_number_56 rfl rfl rfl ?_
      refine J_iload_n (i := 1) 1 58 dX9_number_57 rfl rfl rfl ?_
      refine J_icmp_gt 85 61 dX9_number_58 (by decide) rfl (fun c3 => ?_) (fun c3 => ?_)
      · rw [if_pos c3] at h
        refine J.pick [0, 1, 2] rfl ?_
        exact hk85 l2 σ h
      · rw [if_neg c3] at h
        refine J_bipush 63 dX9_number_61 rfl (10 : Int32) kbp_10 ?_
        refine J_iload_n (i := 2) 2 64 dX9_number_63 rfl rfl rfl ?_
        refine J_imul 65 dX9_number_64 rfl ?_
        refine J_aload_n (i := 0) 0 66 dX9_number_65 rfl rfl rfl ?_
        obtain ⟨v4, hv4, h⟩ := some_of_bind h
        refine J_gR 69 dX9_number_66 rfl fk_r_316 hv4 ?_
        obtain ⟨v5, hv5, h⟩ := some_of_bind h
        refine J_gR 72 dX9_number_69 rfl fk_r_317 hv5 ?_
        refine J_iload_n (i := 3) 3 73 dX9_number_72 rfl rfl rfl ?_
        obtain ⟨v6, hv6, h⟩ := some_of_bind h
        refine J_bald 74 dX9_number_73 rfl hv6 ?_
        refine J_iadd 75 dX9_number_74 rfl ?_
        refine J_bipush 77 dX9_number_75 rfl (48 : Int32) kbp_48 ?_
        refine J_isub 78 dX9_number_77 rfl ?_
        refine J_istore_n (i := 2) 79 [(2, 1, .int ((((10 : Int32) * l2) + v6) - (48 : Int32))), (0, 1, va_rf l0), (1, 1, .int l1), (3, 1, .int l3)] dX9_number_78 rfl rfl (Nat.le_of_ble_eq_true rfl) rfl ?_
        refine J_iinc (i := 3) (v := l3 + (1 : Int32)) 3 82 [(3, 1, .int (l3 + (1 : Int32))), (2, 1, .int ((((10 : Int32) * l2) + v6) - (48 : Int32))), (0, 1, va_rf l0), (1, 1, .int l1)] dX9_number_79 rfl rfl (Nat.le_of_ble_eq_true rfl) (by rw [kic_1]) rfl ?_
        refine J_goto 48 dX9_number_82 (by decide) ?_
        refine J.pick [2, 3, 1, 0] rfl ?_
        exact ih ((((10 : Int32) * l2) + v6) - (48 : Int32)) (l3 + (1 : Int32)) σ h
def X9_number_c96  (l0 : Option Nat) (l2 : Int32) (s0 : Option Nat) (s1 : Int32) (σ : Hp) : Option ((Nat ⊕ Int32) × Hp) :=
  (cT2 σ s0 10 23).bind fun b2 =>
  (X9_must s0 s1 σ).bind fun q1 =>
  bT q1 fun w3 =>
  (cT2 q1.2 l0 10 23).bind fun b6 =>
  (X9_next l0  q1.2).bind fun q5 =>
  some (Sum.inr l2, q5)
set_option maxHeartbeats 4000000 in
theorem jX9_number_c96 {γ : GP} {σ0 : Hp} {q : ((Nat ⊕ Int32) × Hp)} (hγ : GOK γ) (l0 : Option Nat) (l2 : Int32)  (s0 : Option Nat) (s1 : Int32) (σ : Hp) (h : X9_number_c96 l0 l2 s0 s1 σ = some q) : J γ mX9_number (σ0, fxI q.1, q.2) σ 96 [(0, 1, va_rf l0), (2, 1, .int l2)] [.int s1, va_rf s0] := by
  unfold X9_number_c96 at h
  obtain ⟨b2, hb2, h⟩ := some_of_bind h
  obtain ⟨q1, hq1, h⟩ := some_of_bind h
  rcases bT_of h with ⟨a4, ha4, ht, hq⟩ | ⟨w3, hw3, h⟩
  · exact J_cWT dX9_number_96 ykX9_must (Or.inl q1132) q1133 (Nat.le_of_ble_eq_true rfl) cs_nil (by decide) [.int s1] (RC.two hb2 (by decide) (by decide) rfl rfl q1135 q1136) rfl rfl (by have hx := sX9_must hγ s0 s1 σ q1 hq1; rw [ha4] at hx; exact hx) (JT_out rfl ht (thrI hq))
  · refine J_cWv 99 dX9_number_96 rfl ykX9_must (Or.inl q1132) q1133 (Nat.le_of_ble_eq_true rfl) cs_nil (by decide) [.int s1] (RC.two hb2 (by decide) (by decide) rfl rfl q1135 q1136) rfl rfl (by have hx := sX9_must hγ s0 s1 σ q1 hq1; rw [hw3] at hx; exact hx) ?_
    refine J_aload_n (i := 0) 0 100 dX9_number_99 rfl rfl rfl ?_
    obtain ⟨b6, hb6, h⟩ := some_of_bind h
    obtain ⟨q5, hq5, h⟩ := some_of_bind h
    refine J_cWv 103 dX9_number_100 rfl ykX9_next (Or.inl q1120) q1121 (Nat.le_of_ble_eq_true rfl) cs_nil (by decide) [] (RC.two hb6 (by decide) (by decide) rfl rfl q1123 q1124) rfl rfl (sX9_next hγ l0  q1.2 q5 hq5) ?_
    refine J_iload_n (i := 2) 1 104 dX9_number_103 rfl rfl rfl ?_
    exact J_iret rfl dX9_number_104 (retIX h)
def X9_number_c85  (l0 : Option Nat) (l1 : Int32) (l2 : Int32)  (σ : Hp) : Option ((Nat ⊕ Int32) × Hp) :=
  if l1 < l2 then
    X9_number_c96  l0 l2 l0 (0 : Int32) σ
  else
    X9_number_c96  l0 l2 l0 (1 : Int32) σ
set_option maxHeartbeats 4000000 in
theorem jX9_number_c85 {γ : GP} {σ0 : Hp} {q : ((Nat ⊕ Int32) × Hp)} (hγ : GOK γ) (l0 : Option Nat) (l1 : Int32) (l2 : Int32)   (σ : Hp) (h : X9_number_c85 l0 l1 l2 σ = some q) : J γ mX9_number (σ0, fxI q.1, q.2) σ 85 [(0, 1, va_rf l0), (1, 1, .int l1), (2, 1, .int l2)] [] := by
  unfold X9_number_c85 at h
  refine J_aload_n (i := 0) 0 86 dX9_number_85 rfl rfl rfl ?_
  refine J_iload_n (i := 2) 2 87 dX9_number_86 rfl rfl rfl ?_
  refine J_iload_n (i := 1) 1 88 dX9_number_87 rfl rfl rfl ?_
  refine J_icmp_gt 95 91 dX9_number_88 (by decide) rfl (fun c1 => ?_) (fun c1 => ?_)
  · rw [if_pos c1] at h
    refine J_ic 96 dX9_number_95 rfl (0 : Int32) kic_0 ?_
    refine J.pick [0, 2] rfl ?_
    exact jX9_number_c96 hγ l0 l2 l0 (0 : Int32) σ h
  · rw [if_neg c1] at h
    refine J_ic 92 dX9_number_91 rfl (1 : Int32) kic_1 ?_
    refine J_goto 96 dX9_number_92 (by decide) ?_
    refine J.pick [0, 2] rfl ?_
    exact jX9_number_c96 hγ l0 l2 l0 (1 : Int32) σ h
def X9_number_c38  (l0 : Option Nat) (l1 : Int32) (s0 : Option Nat) (s1 : Int32) (σ : Hp) : Option ((Nat ⊕ Int32) × Hp) :=
  (cT2 σ s0 10 23).bind fun b2 =>
  (X9_must s0 s1 σ).bind fun q1 =>
  bT q1 fun w3 =>
  (gI q1.2 l0 [10, 23] 0).bind fun v5 =>
  X9_number_c48 l0 l1 (fun x6 τ7 =>
    X9_number_c85  l0 l1 x6  τ7) FUEL (0 : Int32) v5 q1.2
set_option maxHeartbeats 4000000 in
theorem jX9_number_c38 {γ : GP} {σ0 : Hp} {q : ((Nat ⊕ Int32) × Hp)} (hγ : GOK γ) (l0 : Option Nat) (l1 : Int32)  (s0 : Option Nat) (s1 : Int32) (σ : Hp) (h : X9_number_c38 l0 l1 s0 s1 σ = some q) : J γ mX9_number (σ0, fxI q.1, q.2) σ 38 [(0, 1, va_rf l0), (1, 1, .int l1)] [.int s1, va_rf s0] := by
  unfold X9_number_c38 at h
  obtain ⟨b2, hb2, h⟩ := some_of_bind h
  obtain ⟨q1, hq1, h⟩ := some_of_bind h
  rcases bT_of h with ⟨a4, ha4, ht, hq⟩ | ⟨w3, hw3, h⟩
  · exact J_cWT dX9_number_38 ykX9_must (Or.inl q1132) q1133 (Nat.le_of_ble_eq_true rfl) cs_nil (by decide) [.int s1] (RC.two hb2 (by decide) (by decide) rfl rfl q1135 q1136) rfl rfl (by have hx := sX9_must hγ s0 s1 σ q1 hq1; rw [ha4] at hx; exact hx) (JT_out rfl ht (thrI hq))
  · refine J_cWv 41 dX9_number_38 rfl ykX9_must (Or.inl q1132) q1133 (Nat.le_of_ble_eq_true rfl) cs_nil (by decide) [.int s1] (RC.two hb2 (by decide) (by decide) rfl rfl q1135 q1136) rfl rfl (by have hx := sX9_must hγ s0 s1 σ q1 hq1; rw [hw3] at hx; exact hx) ?_
    refine J_ic 42 dX9_number_41 rfl (0 : Int32) kic_0 ?_
    refine J_istore_n (i := 2) 43 [(2, 1, .int (0 : Int32)), (0, 1, va_rf l0), (1, 1, .int l1)] dX9_number_42 rfl rfl (Nat.le_of_ble_eq_true rfl) rfl ?_
    refine J_aload_n (i := 0) 1 44 dX9_number_43 rfl rfl rfl ?_
    obtain ⟨v5, hv5, h⟩ := some_of_bind h
    refine J_gI 47 dX9_number_44 rfl fk_r_318 hv5 ?_
    refine J_istore_n (i := 3) 48 [(3, 1, .int v5), (2, 1, .int (0 : Int32)), (0, 1, va_rf l0), (1, 1, .int l1)] dX9_number_47 rfl rfl (Nat.le_of_ble_eq_true rfl) rfl ?_
    refine J.pick [2, 3, 1, 0] rfl ?_
    refine jX9_number_c48 hγ l0 l1 (fun x6 τ7 h => ?_) FUEL (0 : Int32) v5 q1.2 h
    · exact jX9_number_c85 hγ l0 l1 x6  τ7 h
def X9_number_c37  (l0 : Option Nat) (l1 : Int32) (s0 : Option Nat) (σ : Hp) : Option ((Nat ⊕ Int32) × Hp) :=
  X9_number_c38  l0 l1 s0 (0 : Int32) σ
set_option maxHeartbeats 4000000 in
theorem jX9_number_c37 {γ : GP} {σ0 : Hp} {q : ((Nat ⊕ Int32) × Hp)} (hγ : GOK γ) (l0 : Option Nat) (l1 : Int32)  (s0 : Option Nat) (σ : Hp) (h : X9_number_c37 l0 l1 s0 σ = some q) : J γ mX9_number (σ0, fxI q.1, q.2) σ 37 [(0, 1, va_rf l0), (1, 1, .int l1)] [va_rf s0] := by
  unfold X9_number_c37 at h
  refine J_ic 38 dX9_number_37 rfl (0 : Int32) kic_0 ?_
  exact jX9_number_c38 hγ l0 l1 s0 (0 : Int32) σ h
def X9_number (l0 : Option Nat) (l1 : Int32) (σ : Hp) : Option ((Nat ⊕ Int32) × Hp) :=
  (gI σ l0 [10, 23] 0).bind fun v1 =>
  (gR σ l0 [10, 23] 7).bind fun v2 =>
  (gI σ v2 [0] 15).bind fun v3 =>
  if v3 ≤ v1 then
    X9_number_c37  l0 l1 l0 σ
  else
    (gR σ l0 [10, 23] 7).bind fun v5 =>
    (gR σ v5 [0] 14).bind fun v6 =>
    (gI σ l0 [10, 23] 0).bind fun v7 =>
    (aI 2 σ v6 v7).bind fun v8 =>
    (X0_isDigit v8 σ).bind fun q9 =>
    if q9.1 = 0 then
      X9_number_c37  l0 l1 l0 q9.2
    else
      X9_number_c38  l0 l1 l0 (1 : Int32) q9.2
set_option maxHeartbeats 4000000 in
theorem sX9_number {γ : GP} (hγ : GOK γ) (l0 : Option Nat) (l1 : Int32) (σ : Hp) (q : ((Nat ⊕ Int32) × Hp)) (h : X9_number l0 l1 σ = some q) : Rn γ mX9_number yX9_number [va_rf l0, .int l1] (σ, fxI q.1, q.2) := by
  refine J_mX hγ ykX9_number rfl [(1, va_rf l0), (1, .int l1)] (cats_r (cats_i cats_nil)) (Nat.le_of_ble_eq_true rfl) ?_
  show J γ mX9_number _ σ 0 [(0, 1, va_rf l0), (1, 1, .int l1)] []
  unfold X9_number at h
  refine J_aload_n (i := 0) 0 1 dX9_number_0 rfl rfl rfl ?_
  refine J_aload_n (i := 0) 0 2 dX9_number_1 rfl rfl rfl ?_
  obtain ⟨v1, hv1, h⟩ := some_of_bind h
  refine J_gI 5 dX9_number_2 rfl fk_r_318 hv1 ?_
  refine J_aload_n (i := 0) 0 6 dX9_number_5 rfl rfl rfl ?_
  obtain ⟨v2, hv2, h⟩ := some_of_bind h
  refine J_gR 9 dX9_number_6 rfl fk_r_316 hv2 ?_
  obtain ⟨v3, hv3, h⟩ := some_of_bind h
  refine J_gI 12 dX9_number_9 rfl fk_r_325 hv3 ?_
  refine J_icmp_ge 37 15 dX9_number_12 (by decide) rfl (fun c4 => ?_) (fun c4 => ?_)
  · rw [if_pos c4] at h
    exact jX9_number_c37 hγ l0 l1 l0 σ h
  · rw [if_neg c4] at h
    refine J_aload_n (i := 0) 0 16 dX9_number_15 rfl rfl rfl ?_
    obtain ⟨v5, hv5, h⟩ := some_of_bind h
    refine J_gR 19 dX9_number_16 rfl fk_r_316 hv5 ?_
    obtain ⟨v6, hv6, h⟩ := some_of_bind h
    refine J_gR 22 dX9_number_19 rfl fk_r_317 hv6 ?_
    refine J_aload_n (i := 0) 0 23 dX9_number_22 rfl rfl rfl ?_
    obtain ⟨v7, hv7, h⟩ := some_of_bind h
    refine J_gI 26 dX9_number_23 rfl fk_r_318 hv7 ?_
    obtain ⟨v8, hv8, h⟩ := some_of_bind h
    refine J_bald 27 dX9_number_26 rfl hv8 ?_
    obtain ⟨q9, hq9, h⟩ := some_of_bind h
    refine J_cSi 30 dX9_number_27 rfl ykX0_isDigit (Or.inr ⟨_, q1129⟩) q1130 (Nat.le_of_ble_eq_true rfl) (cs_rf cs_nil) (by decide) [.int v8] rfl rfl (sX0_isDigit hγ v8 σ q9 hq9) ?_
    refine J_if_eq 37 33 dX9_number_30 (by decide) rfl (fun c10 => ?_) (fun c10 => ?_)
    · rw [if_pos c10] at h
      exact jX9_number_c37 hγ l0 l1 l0 q9.2 h
    · rw [if_neg c10] at h
      refine J_ic 34 dX9_number_33 rfl (1 : Int32) kic_1 ?_
      refine J_goto 38 dX9_number_34 (by decide) ?_
      exact jX9_number_c38 hγ l0 l1 l0 (1 : Int32) q9.2 h
abbrev mX9_leaf : MP := (cX9_leaf, "MissCurves$Reader", 1, (Option.none : Option FieldType), 5, "leaf", [])
theorem ykX9_leaf : YK yX9_leaf mX9_leaf 0 := ⟨q1242, q156, ⟨by decide, by decide⟩, by decide +kernel, Nat.le_of_ble_eq_true rfl, by decide, rfl, rfl⟩
theorem fk_r_328 : FOK "MissCurves$Reader" 116 [10, 23] 2 isI := FOK.cons (by decide) rfl (Nat.le_of_ble_eq_true rfl) (Or.inl ⟨_, q1081, Or.inl rfl⟩) rfl (FOK.one (by decide) rfl (Nat.le_of_ble_eq_true rfl) (Or.inl ⟨_, q1081, Or.inl rfl⟩) rfl)
theorem pk_r_329 {nm9 : String} : POK "MissCurves$Reader" nm9 116 [10, 23] 2 .int := POK.cons (by decide) rfl (Nat.le_of_ble_eq_true rfl) (Or.inl ⟨_, q1081, Or.inl rfl⟩) rfl (by decide +kernel) (Or.inl rfl) (POK.one (by decide) rfl (Nat.le_of_ble_eq_true rfl) (Or.inl ⟨_, q1081, Or.inl rfl⟩) rfl (by decide +kernel) (Or.inl rfl))
def X9_leaf_c15  (l0 : Option Nat) (s0 : Option Nat) (s1 : Int32) (σ : Hp) : Option ((Nat ⊕ Unit) × Hp) :=
  (cT2 σ s0 10 23).bind fun b2 =>
  (X9_must s0 s1 σ).bind fun q1 =>
  bT q1 fun w3 =>
  (gI q1.2 l0 [10, 23] 2).bind fun v5 =>
  (pI q1.2 l0 [10, 23] 2 (v5 + (1 : Int32))).bind fun σ6 =>
  some (Sum.inr (), σ6)
set_option maxHeartbeats 4000000 in
theorem jX9_leaf_c15 {γ : GP} {σ0 : Hp} {q : ((Nat ⊕ Unit) × Hp)} (hγ : GOK γ) (l0 : Option Nat)  (s0 : Option Nat) (s1 : Int32) (σ : Hp) (h : X9_leaf_c15 l0 s0 s1 σ = some q) : J γ mX9_leaf (σ0, fxV q.1, q.2) σ 15 [(0, 1, va_rf l0)] [.int s1, va_rf s0] := by
  unfold X9_leaf_c15 at h
  obtain ⟨b2, hb2, h⟩ := some_of_bind h
  obtain ⟨q1, hq1, h⟩ := some_of_bind h
  rcases bT_of h with ⟨a4, ha4, ht, hq⟩ | ⟨w3, hw3, h⟩
  · exact J_cWT dX9_leaf_15 ykX9_must (Or.inl q1132) q1133 (Nat.le_of_ble_eq_true rfl) cs_nil (by decide) [.int s1] (RC.two hb2 (by decide) (by decide) rfl rfl q1135 q1136) rfl rfl (by have hx := sX9_must hγ s0 s1 σ q1 hq1; rw [ha4] at hx; exact hx) (JT_out rfl ht (thrV hq))
  · refine J_cWv 18 dX9_leaf_15 rfl ykX9_must (Or.inl q1132) q1133 (Nat.le_of_ble_eq_true rfl) cs_nil (by decide) [.int s1] (RC.two hb2 (by decide) (by decide) rfl rfl q1135 q1136) rfl rfl (by have hx := sX9_must hγ s0 s1 σ q1 hq1; rw [hw3] at hx; exact hx) ?_
    refine J_aload_n (i := 0) 0 19 dX9_leaf_18 rfl rfl rfl ?_
    refine J_dupr 20 dX9_leaf_19 rfl ?_
    obtain ⟨v5, hv5, h⟩ := some_of_bind h
    refine J_gI 23 dX9_leaf_20 rfl fk_r_328 hv5 ?_
    refine J_ic 24 dX9_leaf_23 rfl (1 : Int32) kic_1 ?_
    refine J_iadd 25 dX9_leaf_24 rfl ?_
    obtain ⟨σ6, hσ6, h⟩ := some_of_bind h
    refine J_pI 28 dX9_leaf_25 rfl pk_r_329 hσ6 ?_
    exact J_vret rfl dX9_leaf_28 (retVX h)
def X9_leaf (l0 : Option Nat) (σ : Hp) : Option ((Nat ⊕ Unit) × Hp) :=
  (gI σ l0 [10, 23] 2).bind fun v1 =>
  if (50 : Int32) ≤ v1 then
    X9_leaf_c15  l0 l0 (0 : Int32) σ
  else
    X9_leaf_c15  l0 l0 (1 : Int32) σ
set_option maxHeartbeats 4000000 in
theorem sX9_leaf {γ : GP} (hγ : GOK γ) (l0 : Option Nat) (σ : Hp) (q : ((Nat ⊕ Unit) × Hp)) (h : X9_leaf l0 σ = some q) : Rn γ mX9_leaf yX9_leaf [va_rf l0] (σ, fxV q.1, q.2) := by
  refine J_mX hγ ykX9_leaf rfl [(1, va_rf l0)] (cats_r cats_nil) (Nat.le_of_ble_eq_true rfl) ?_
  show J γ mX9_leaf _ σ 0 [(0, 1, va_rf l0)] []
  unfold X9_leaf at h
  refine J_aload_n (i := 0) 0 1 dX9_leaf_0 rfl rfl rfl ?_
  refine J_aload_n (i := 0) 0 2 dX9_leaf_1 rfl rfl rfl ?_
  obtain ⟨v1, hv1, h⟩ := some_of_bind h
  refine J_gI 5 dX9_leaf_2 rfl fk_r_328 hv1 ?_
  refine J_bipush 7 dX9_leaf_5 rfl (50 : Int32) kbp_50 ?_
  refine J_icmp_ge 14 10 dX9_leaf_7 (by decide) rfl (fun c2 => ?_) (fun c2 => ?_)
  · rw [if_pos c2] at h
    refine J_ic 15 dX9_leaf_14 rfl (0 : Int32) kic_0 ?_
    exact jX9_leaf_c15 hγ l0 l0 (0 : Int32) σ h
  · rw [if_neg c2] at h
    refine J_ic 11 dX9_leaf_10 rfl (1 : Int32) kic_1 ?_
    refine J_goto 15 dX9_leaf_11 (by decide) ?_
    exact jX9_leaf_c15 hγ l0 l0 (1 : Int32) σ h
abbrev mX9_open : MP := (cX9_open, "MissCurves$Reader", 1, (Option.none : Option FieldType), 5, "open", [])
theorem ykX9_open : YK yX9_open mX9_open 0 := ⟨q1225, q156, ⟨by decide, by decide⟩, by decide +kernel, Nat.le_of_ble_eq_true rfl, by decide, rfl, rfl⟩
theorem fk_r_330 : FOK "MissCurves$Reader" 113 [10, 23] 3 isI := FOK.cons (by decide) rfl (Nat.le_of_ble_eq_true rfl) (Or.inl ⟨_, q1082, Or.inl rfl⟩) rfl (FOK.one (by decide) rfl (Nat.le_of_ble_eq_true rfl) (Or.inl ⟨_, q1082, Or.inl rfl⟩) rfl)
theorem pk_r_331 {nm9 : String} : POK "MissCurves$Reader" nm9 113 [10, 23] 3 .int := POK.cons (by decide) rfl (Nat.le_of_ble_eq_true rfl) (Or.inl ⟨_, q1082, Or.inl rfl⟩) rfl (by decide +kernel) (Or.inl rfl) (POK.one (by decide) rfl (Nat.le_of_ble_eq_true rfl) (Or.inl ⟨_, q1082, Or.inl rfl⟩) rfl (by decide +kernel) (Or.inl rfl))
def X9_open_c15  (l0 : Option Nat) (s0 : Option Nat) (s1 : Int32) (σ : Hp) : Option ((Nat ⊕ Unit) × Hp) :=
  (cT2 σ s0 10 23).bind fun b2 =>
  (X9_must s0 s1 σ).bind fun q1 =>
  bT q1 fun w3 =>
  (gI q1.2 l0 [10, 23] 3).bind fun v5 =>
  (pI q1.2 l0 [10, 23] 3 (v5 + (1 : Int32))).bind fun σ6 =>
  (cT2 σ6 l0 10 23).bind fun b8 =>
  (X9_next l0  σ6).bind fun q7 =>
  some (Sum.inr (), q7)
set_option maxHeartbeats 4000000 in
theorem jX9_open_c15 {γ : GP} {σ0 : Hp} {q : ((Nat ⊕ Unit) × Hp)} (hγ : GOK γ) (l0 : Option Nat)  (s0 : Option Nat) (s1 : Int32) (σ : Hp) (h : X9_open_c15 l0 s0 s1 σ = some q) : J γ mX9_open (σ0, fxV q.1, q.2) σ 15 [(0, 1, va_rf l0)] [.int s1, va_rf s0] := by
  unfold X9_open_c15 at h
  obtain ⟨b2, hb2, h⟩ := some_of_bind h
  obtain ⟨q1, hq1, h⟩ := some_of_bind h
  rcases bT_of h with ⟨a4, ha4, ht, hq⟩ | ⟨w3, hw3, h⟩
  · exact J_cWT dX9_open_15 ykX9_must (Or.inl q1132) q1133 (Nat.le_of_ble_eq_true rfl) cs_nil (by decide) [.int s1] (RC.two hb2 (by decide) (by decide) rfl rfl q1135 q1136) rfl rfl (by have hx := sX9_must hγ s0 s1 σ q1 hq1; rw [ha4] at hx; exact hx) (JT_out rfl ht (thrV hq))
  · refine J_cWv 18 dX9_open_15 rfl ykX9_must (Or.inl q1132) q1133 (Nat.le_of_ble_eq_true rfl) cs_nil (by decide) [.int s1] (RC.two hb2 (by decide) (by decide) rfl rfl q1135 q1136) rfl rfl (by have hx := sX9_must hγ s0 s1 σ q1 hq1; rw [hw3] at hx; exact hx) ?_
    refine J_aload_n (i := 0) 0 19 dX9_open_18 rfl rfl rfl ?_
    refine J_dupr 20 dX9_open_19 rfl ?_
    obtain ⟨v5, hv5, h⟩ := some_of_bind h
    refine J_gI 23 dX9_open_20 rfl fk_r_330 hv5 ?_
    refine J_ic 24 dX9_open_23 rfl (1 : Int32) kic_1 ?_
    refine J_iadd 25 dX9_open_24 rfl ?_
    obtain ⟨σ6, hσ6, h⟩ := some_of_bind h
    refine J_pI 28 dX9_open_25 rfl pk_r_331 hσ6 ?_
    refine J_aload_n (i := 0) 0 29 dX9_open_28 rfl rfl rfl ?_
    obtain ⟨b8, hb8, h⟩ := some_of_bind h
    obtain ⟨q7, hq7, h⟩ := some_of_bind h
    refine J_cWv 32 dX9_open_29 rfl ykX9_next (Or.inl q1120) q1121 (Nat.le_of_ble_eq_true rfl) cs_nil (by decide) [] (RC.two hb8 (by decide) (by decide) rfl rfl q1123 q1124) rfl rfl (sX9_next hγ l0  σ6 q7 hq7) ?_
    exact J_vret rfl dX9_open_32 (retVX h)
def X9_open (l0 : Option Nat) (σ : Hp) : Option ((Nat ⊕ Unit) × Hp) :=
  (gI σ l0 [10, 23] 3).bind fun v1 =>
  if (8 : Int32) ≤ v1 then
    X9_open_c15  l0 l0 (0 : Int32) σ
  else
    X9_open_c15  l0 l0 (1 : Int32) σ
set_option maxHeartbeats 4000000 in
theorem sX9_open {γ : GP} (hγ : GOK γ) (l0 : Option Nat) (σ : Hp) (q : ((Nat ⊕ Unit) × Hp)) (h : X9_open l0 σ = some q) : Rn γ mX9_open yX9_open [va_rf l0] (σ, fxV q.1, q.2) := by
  refine J_mX hγ ykX9_open rfl [(1, va_rf l0)] (cats_r cats_nil) (Nat.le_of_ble_eq_true rfl) ?_
  show J γ mX9_open _ σ 0 [(0, 1, va_rf l0)] []
  unfold X9_open at h
  refine J_aload_n (i := 0) 0 1 dX9_open_0 rfl rfl rfl ?_
  refine J_aload_n (i := 0) 0 2 dX9_open_1 rfl rfl rfl ?_
  obtain ⟨v1, hv1, h⟩ := some_of_bind h
  refine J_gI 5 dX9_open_2 rfl fk_r_330 hv1 ?_
  refine J_bipush 7 dX9_open_5 rfl (8 : Int32) kbp_8 ?_
  refine J_icmp_ge 14 10 dX9_open_7 (by decide) rfl (fun c2 => ?_) (fun c2 => ?_)
  · rw [if_pos c2] at h
    refine J_ic 15 dX9_open_14 rfl (0 : Int32) kic_0 ?_
    exact jX9_open_c15 hγ l0 l0 (0 : Int32) σ h
  · rw [if_neg c2] at h
    refine J_ic 11 dX9_open_10 rfl (1 : Int32) kic_1 ?_
    refine J_goto 15 dX9_open_11 (by decide) ?_
    exact jX9_open_c15 hγ l0 l0 (1 : Int32) σ h
abbrev mX9_close : MP := (cX9_close, "MissCurves$Reader", 2, (Option.none : Option FieldType), 8, "close", [])
theorem ykX9_close : YK yX9_close mX9_close 1 := ⟨q1231, q156, ⟨by decide, by decide⟩, by decide +kernel, Nat.le_of_ble_eq_true rfl, by decide, rfl, rfl⟩
def X9_close (l0 : Option Nat) (l1 : Option Nat) (σ : Hp) : Option ((Nat ⊕ Unit) × Hp) :=
  (cT2 σ l0 10 23).bind fun b2 =>
  (X9_accept l0 l1 σ).bind fun q1 =>
  (cT2 q1.2 l0 10 23).bind fun b4 =>
  (X9_must l0 q1.1 q1.2).bind fun q3 =>
  bT q3 fun w5 =>
  (gI q3.2 l0 [10, 23] 3).bind fun v7 =>
  (pI q3.2 l0 [10, 23] 3 (v7 - (1 : Int32))).bind fun σ8 =>
  some (Sum.inr (), σ8)
set_option maxHeartbeats 4000000 in
theorem sX9_close {γ : GP} (hγ : GOK γ) (l0 : Option Nat) (l1 : Option Nat) (σ : Hp) (q : ((Nat ⊕ Unit) × Hp)) (h : X9_close l0 l1 σ = some q) : Rn γ mX9_close yX9_close [va_rf l0, va_rf l1] (σ, fxV q.1, q.2) := by
  refine J_mX hγ ykX9_close rfl [(1, va_rf l0), (1, va_rf l1)] (cats_r (cats_r cats_nil)) (Nat.le_of_ble_eq_true rfl) ?_
  show J γ mX9_close _ σ 0 [(0, 1, va_rf l0), (1, 1, va_rf l1)] []
  unfold X9_close at h
  refine J_aload_n (i := 0) 0 1 dX9_close_0 rfl rfl rfl ?_
  refine J_aload_n (i := 0) 0 2 dX9_close_1 rfl rfl rfl ?_
  refine J_aload_n (i := 1) 1 3 dX9_close_2 rfl rfl rfl ?_
  obtain ⟨b2, hb2, h⟩ := some_of_bind h
  obtain ⟨q1, hq1, h⟩ := some_of_bind h
  refine J_cWi 6 dX9_close_3 rfl ykX9_accept (Or.inl q1232) q1233 (Nat.le_of_ble_eq_true rfl) (cs_rf cs_nil) (by decide) [va_rf l1] (RC.two hb2 (by decide) (by decide) rfl rfl q1235 q1236) rfl rfl (sX9_accept hγ l0 l1 σ q1 hq1) ?_
  obtain ⟨b4, hb4, h⟩ := some_of_bind h
  obtain ⟨q3, hq3, h⟩ := some_of_bind h
  rcases bT_of h with ⟨a6, ha6, ht, hq⟩ | ⟨w5, hw5, h⟩
  · exact J_cWT dX9_close_6 ykX9_must (Or.inl q1132) q1133 (Nat.le_of_ble_eq_true rfl) cs_nil (by decide) [.int q1.1] (RC.two hb4 (by decide) (by decide) rfl rfl q1135 q1136) rfl rfl (by have hx := sX9_must hγ l0 q1.1 q1.2 q3 hq3; rw [ha6] at hx; exact hx) (JT_out rfl ht (thrV hq))
  · refine J_cWv 9 dX9_close_6 rfl ykX9_must (Or.inl q1132) q1133 (Nat.le_of_ble_eq_true rfl) cs_nil (by decide) [.int q1.1] (RC.two hb4 (by decide) (by decide) rfl rfl q1135 q1136) rfl rfl (by have hx := sX9_must hγ l0 q1.1 q1.2 q3 hq3; rw [hw5] at hx; exact hx) ?_
    refine J_aload_n (i := 0) 0 10 dX9_close_9 rfl rfl rfl ?_
    refine J_dupr 11 dX9_close_10 rfl ?_
    obtain ⟨v7, hv7, h⟩ := some_of_bind h
    refine J_gI 14 dX9_close_11 rfl fk_r_330 hv7 ?_
    refine J_ic 15 dX9_close_14 rfl (1 : Int32) kic_1 ?_
    refine J_isub 16 dX9_close_15 rfl ?_
    obtain ⟨σ8, hσ8, h⟩ := some_of_bind h
    refine J_pI 19 dX9_close_16 rfl pk_r_331 hσ8 ?_
    exact J_vret rfl dX9_close_19 (retVX h)
abbrev mX9_which : MP := (cX9_which, "MissCurves$Reader", 3, (Option.some FieldType.int), 7, "which", [])
theorem ykX9_which : YK yX9_which mX9_which 1 := ⟨q1173, q156, ⟨by decide, by decide⟩, by decide +kernel, Nat.le_of_ble_eq_true rfl, by decide, rfl, rfl⟩
def X9_which_c2 (l0 : Option Nat) (l1 : Option Nat)  : Nat → Int32 → Hp → Option (Int32 × Hp)
  | 0, _, _ => none
  | n + 1, l2, σ =>
    (aN σ l1).bind fun v1 =>
    if v1 ≤ l2 then
      some ((-1 : Int32), σ)
    else
      (aR 14 σ l1 l2).bind fun v3 =>
      (cT2 σ l0 10 23).bind fun b5 =>
      (X9_isWord l0 v3 σ).bind fun q4 =>
      if q4.1 = 0 then
        X9_which_c2 l0 l1 n (l2 + (1 : Int32)) q4.2
      else
        some (l2, q4.2)
set_option maxHeartbeats 4000000 in
theorem jX9_which_c2 {γ : GP} {σ0 : Hp} {q : (Int32 × Hp)} (hγ : GOK γ) (l0 : Option Nat) (l1 : Option Nat)  : ∀ (n : Nat) (l2 : Int32) (σ : Hp), X9_which_c2 l0 l1 n l2 σ = some q → J γ mX9_which (σ0, .inr (some (.int q.1)), q.2) σ 2 [(0, 1, va_rf l0), (1, 1, va_rf l1), (2, 1, .int l2)] [] := by
  intro n
  induction n with
  | zero => intro l2 σ h; exact nomatch (show none = some q from h)
  | succ n ih =>
    intro l2 σ h
    rw [X9_which_c2] at h
    refine J_iload_n (i := 2) 2 3 dX9_which_2 rfl rfl rfl ?_
    refine J_aload_n (i := 1) 1 4 dX9_which_3 rfl rfl rfl ?_
    obtain ⟨v1, hv1, h⟩ := some_of_bind h
    refine J_alen 5 dX9_which_4 rfl hv1 ?_
    refine J_icmp_ge 26 8 dX9_which_5 (by decide) rfl (fun c2 => ?_) (fun c2 => ?_)
    · rw [if_pos c2] at h
      refine J_ic 27 dX9_which_26 rfl (-1 : Int32) kic_m1 ?_
      exact J_iret rfl dX9_which_27 (retI h)
    · rw [if_neg c2] at h
      refine J_aload_n (i := 0) 0 9 dX9_which_8 rfl rfl rfl ?_
      refine J_aload_n (i := 1) 1 10 dX9_which_9 rfl rfl rfl ?_
      refine J_iload_n (i := 2) 2 11 dX9_which_10 rfl rfl rfl ?_
      obtain ⟨v3, hv3, h⟩ := some_of_bind h
      refine J_aald 14 (by decide) (by decide) rfl 12 dX9_which_11 rfl hv3 ?_
      obtain ⟨b5, hb5, h⟩ := some_of_bind h
      obtain ⟨q4, hq4, h⟩ := some_of_bind h
      refine J_cWi 15 dX9_which_12 rfl ykX9_isWord (Or.inl q1174) q1175 (Nat.le_of_ble_eq_true rfl) cs_nil (by decide) [va_rf v3] (RC.two hb5 (by decide) (by decide) rfl rfl q1177 q1178) rfl rfl (sX9_isWord hγ l0 v3 σ q4 hq4) ?_
      refine J_if_eq 20 18 dX9_which_15 (by decide) rfl (fun c6 => ?_) (fun c6 => ?_)
      · rw [if_pos c6] at h
        refine J_iinc (i := 2) (v := l2 + (1 : Int32)) 2 23 [(2, 1, .int (l2 + (1 : Int32))), (0, 1, va_rf l0), (1, 1, va_rf l1)] dX9_which_20 rfl rfl (Nat.le_of_ble_eq_true rfl) (by rw [kic_1]) rfl ?_
        refine J_goto 2 dX9_which_23 (by decide) ?_
        refine J.pick [1, 2, 0] rfl ?_
        exact ih (l2 + (1 : Int32)) q4.2 h
      · rw [if_neg c6] at h
        refine J_iload_n (i := 2) 2 19 dX9_which_18 rfl rfl rfl ?_
        exact J_iret rfl dX9_which_19 (retI h)
def X9_which (l0 : Option Nat) (l1 : Option Nat) (σ : Hp) : Option (Int32 × Hp) :=
  X9_which_c2 l0 l1  FUEL (0 : Int32) σ
set_option maxHeartbeats 4000000 in
theorem sX9_which {γ : GP} (hγ : GOK γ) (l0 : Option Nat) (l1 : Option Nat) (σ : Hp) (q : (Int32 × Hp)) (h : X9_which l0 l1 σ = some q) : Rn γ mX9_which yX9_which [va_rf l0, va_rf l1] (σ, .inr (some (.int q.1)), q.2) := by
  refine J_m hγ ykX9_which rfl [(1, va_rf l0), (1, va_rf l1)] (cats_r (cats_r cats_nil)) (Nat.le_of_ble_eq_true rfl) ?_
  show J γ mX9_which _ σ 0 [(0, 1, va_rf l0), (1, 1, va_rf l1)] []
  unfold X9_which at h
  refine J_ic 1 dX9_which_0 rfl (0 : Int32) kic_0 ?_
  refine J_istore_n (i := 2) 2 [(2, 1, .int (0 : Int32)), (0, 1, va_rf l0), (1, 1, va_rf l1)] dX9_which_1 rfl rfl (Nat.le_of_ble_eq_true rfl) rfl ?_
  refine J.pick [1, 2, 0] rfl ?_
  refine jX9_which_c2 hγ l0 l1  FUEL (0 : Int32) σ h
abbrev mX9_add : MP := (cX9_add, "MissCurves$Reader", 2, (Option.none : Option FieldType), 0, "add", [])
theorem ykX9_add : YK yX9_add mX9_add 1 := ⟨q1382, q156, ⟨by decide, by decide⟩, by decide +kernel, Nat.le_of_ble_eq_true rfl, by decide, rfl, rfl⟩
theorem fk_r_332 : FOK "MissCurves$Reader" 17 [10, 23] 5 isR := FOK.cons (by decide) rfl (Nat.le_of_ble_eq_true rfl) (Or.inl ⟨_, q1084, Or.inl rfl⟩) rfl (FOK.one (by decide) rfl (Nat.le_of_ble_eq_true rfl) (Or.inl ⟨_, q1084, Or.inl rfl⟩) rfl)
theorem fk_r_333 : FOK "MissCurves$Reader" 80 [10, 23] 4 isI := FOK.cons (by decide) rfl (Nat.le_of_ble_eq_true rfl) (Or.inl ⟨_, q1083, Or.inl rfl⟩) rfl (FOK.one (by decide) rfl (Nat.le_of_ble_eq_true rfl) (Or.inl ⟨_, q1083, Or.inl rfl⟩) rfl)
theorem pk_r_334 {nm9 : String} : POK "MissCurves$Reader" nm9 80 [10, 23] 4 .int := POK.cons (by decide) rfl (Nat.le_of_ble_eq_true rfl) (Or.inl ⟨_, q1083, Or.inl rfl⟩) rfl (by decide +kernel) (Or.inl rfl) (POK.one (by decide) rfl (Nat.le_of_ble_eq_true rfl) (Or.inl ⟨_, q1083, Or.inl rfl⟩) rfl (by decide +kernel) (Or.inl rfl))
def X9_add (l0 : Option Nat) (l1 : Option Nat) (σ : Hp) : Option Hp :=
  (gR σ l0 [10, 23] 5).bind fun v1 =>
  (gI σ l0 [10, 23] 4).bind fun v2 =>
  (sR 11 σ v1 v2 l1).bind fun σ3 =>
  (gI σ3 l0 [10, 23] 4).bind fun v4 =>
  (pI σ3 l0 [10, 23] 4 (v4 + (1 : Int32))).bind fun σ5 =>
  some σ5
set_option maxHeartbeats 4000000 in
theorem sX9_add {γ : GP} (hγ : GOK γ) (l0 : Option Nat) (l1 : Option Nat) (σ : Hp) (q : Hp) (h : X9_add l0 l1 σ = some q) : Rn γ mX9_add yX9_add [va_rf l0, va_rf l1] (σ, .inr none, q) := by
  refine J_m hγ ykX9_add rfl [(1, va_rf l0), (1, va_rf l1)] (cats_r (cats_r cats_nil)) (Nat.le_of_ble_eq_true rfl) ?_
  show J γ mX9_add _ σ 0 [(0, 1, va_rf l0), (1, 1, va_rf l1)] []
  unfold X9_add at h
  refine J_aload_n (i := 0) 0 1 dX9_add_0 rfl rfl rfl ?_
  obtain ⟨v1, hv1, h⟩ := some_of_bind h
  refine J_gR 4 dX9_add_1 rfl fk_r_332 hv1 ?_
  refine J_aload_n (i := 0) 0 5 dX9_add_4 rfl rfl rfl ?_
  obtain ⟨v2, hv2, h⟩ := some_of_bind h
  refine J_gI 8 dX9_add_5 rfl fk_r_333 hv2 ?_
  refine J_aload_n (i := 1) 1 9 dX9_add_8 rfl rfl rfl ?_
  obtain ⟨σ3, hσ3, h⟩ := some_of_bind h
  refine J_aast 11 (by decide) (by decide) 10 dX9_add_9 rfl hσ3 ?_
  refine J_aload_n (i := 0) 0 11 dX9_add_10 rfl rfl rfl ?_
  refine J_dupr 12 dX9_add_11 rfl ?_
  obtain ⟨v4, hv4, h⟩ := some_of_bind h
  refine J_gI 15 dX9_add_12 rfl fk_r_333 hv4 ?_
  refine J_ic 16 dX9_add_15 rfl (1 : Int32) kic_1 ?_
  refine J_iadd 17 dX9_add_16 rfl ?_
  obtain ⟨σ5, hσ5, h⟩ := some_of_bind h
  refine J_pI 20 dX9_add_17 rfl pk_r_334 hσ5 ?_
  exact J_vret rfl dX9_add_20 (retV h)
abbrev mX18_init : MP := (cX18_init, "MissCurves$Test", 1, (Option.none : Option FieldType), 1, "<init>", [])
theorem ykX18_init : YK yX18_init mX18_init 0 := ⟨q1357, q165, ⟨by decide, by decide⟩, by decide +kernel, Nat.le_of_ble_eq_true rfl, by decide, rfl, rfl⟩
def X18_init (l0 : Option Nat) (σ : Hp) : Option Hp :=
  l0.bind fun b1 =>
  some σ
set_option maxHeartbeats 4000000 in
theorem sX18_init {γ : GP} (hγ : GOK γ) (l0 : Option Nat) (σ : Hp) (q : Hp) (h : X18_init l0 σ = some q) : Rn γ mX18_init yX18_init [va_rf l0] (σ, .inr none, q) := by
  refine J_m hγ ykX18_init rfl [(1, va_rf l0)] (cats_r cats_nil) (Nat.le_of_ble_eq_true rfl) ?_
  show J γ mX18_init _ σ 0 [(0, 1, va_rf l0)] []
  unfold X18_init at h
  refine J_aload_n (i := 0) 0 1 dX18_init_0 rfl rfl rfl ?_
  obtain ⟨b1, hb1, h⟩ := some_of_bind h
  refine J_oI hb1 q1358 (Nat.le_of_ble_eq_true rfl) cs_nil (by decide) 4 dX18_init_1 rfl ?_
  exact J_vret rfl dX18_init_4 (retV h)
abbrev mX21_init : MP := (cX21_init, "MissCurves$Row", 3, (Option.none : Option FieldType), 2, "<init>", [])
theorem ykX21_init : YK yX21_init mX21_init 2 := ⟨q1393, q168, ⟨by decide, by decide⟩, by decide +kernel, Nat.le_of_ble_eq_true rfl, by decide, rfl, rfl⟩
theorem pk_r_335 : POK "MissCurves$Row" "<init>" 7 [21] 0 .boolean := POK.one (by decide) rfl (Nat.le_of_ble_eq_true rfl) (Or.inl ⟨_, q1395, Or.inl rfl⟩) rfl (by decide +kernel) (Or.inr ⟨rfl, rfl, rfl, _, q1395, Or.inl rfl⟩)
theorem pk_r_336 : POK "MissCurves$Row" "<init>" 13 [21] 1 (.array (.object "MissCurves$Test")) := POK.one (by decide) rfl (Nat.le_of_ble_eq_true rfl) (Or.inl ⟨_, q1396, Or.inl rfl⟩) rfl (by decide +kernel) (Or.inr ⟨rfl, rfl, rfl, _, q1396, Or.inl rfl⟩)
def X21_init (l0 : Option Nat) (l1 : Int32) (l2 : Option Nat) (σ : Hp) : Option Hp :=
  l0.bind fun b2 =>
  (X18_init l0  σ).bind fun q1 =>
  (pZ q1 l0 [21] 0 l1).bind fun σ3 =>
  (pR σ3 l0 [21] 1 l2).bind fun σ4 =>
  some σ4
set_option maxHeartbeats 4000000 in
theorem sX21_init {γ : GP} (hγ : GOK γ) (l0 : Option Nat) (l1 : Int32) (l2 : Option Nat) (σ : Hp) (q : Hp) (h : X21_init l0 l1 l2 σ = some q) : Rn γ mX21_init yX21_init [va_rf l0, .int l1, va_rf l2] (σ, .inr none, q) := by
  refine J_m hγ ykX21_init rfl [(1, va_rf l0), (1, .int l1), (1, va_rf l2)] (cats_r (cats_i (cats_r cats_nil))) (Nat.le_of_ble_eq_true rfl) ?_
  show J γ mX21_init _ σ 0 [(0, 1, va_rf l0), (1, 1, .int l1), (2, 1, va_rf l2)] []
  unfold X21_init at h
  refine J_aload_n (i := 0) 0 1 dX21_init_0 rfl rfl rfl ?_
  obtain ⟨b2, hb2, h⟩ := some_of_bind h
  obtain ⟨q1, hq1, h⟩ := some_of_bind h
  refine J_cI 4 dX21_init_1 rfl ykX18_init rfl (Or.inr ⟨_, q1394⟩) q1356 rfl (Nat.le_of_ble_eq_true rfl) cs_nil (by decide) [] hb2 rfl rfl (sX18_init hγ l0  σ q1 hq1) ?_
  refine J_aload_n (i := 0) 0 5 dX21_init_4 rfl rfl rfl ?_
  refine J_iload_n (i := 1) 1 6 dX21_init_5 rfl rfl rfl ?_
  obtain ⟨σ3, hσ3, h⟩ := some_of_bind h
  refine J_pZ 9 dX21_init_6 rfl pk_r_335 hσ3 ?_
  refine J_aload_n (i := 0) 0 10 dX21_init_9 rfl rfl rfl ?_
  refine J_aload_n (i := 2) 2 11 dX21_init_10 rfl rfl rfl ?_
  obtain ⟨σ4, hσ4, h⟩ := some_of_bind h
  refine J_pR rfl 14 dX21_init_11 rfl pk_r_336 hσ4 ?_
  exact J_vret rfl dX21_init_14 (retV h)
abbrev mX9_joined : MP := (cX9_joined, "MissCurves$Reader", 5, (Option.some (FieldType.object "MissCurves$Test")), 3, "joined", [])
theorem ykX9_joined : YK yX9_joined mX9_joined 2 := ⟨q1387, q156, ⟨by decide, by decide⟩, by decide +kernel, Nat.le_of_ble_eq_true rfl, by decide, rfl, rfl⟩
def X9_joined_c53  (l0 : Option Nat) (l2 : Int32) (l3 : Option Nat)  (σ : Hp) : Option (Option Nat × Hp) :=
  (pI σ l0 [10, 23] 4 l2).bind fun σ1 =>
  some (l3, σ1)
set_option maxHeartbeats 4000000 in
theorem jX9_joined_c53 {γ : GP} {σ0 : Hp} {q : (Option Nat × Hp)} (hγ : GOK γ) (l0 : Option Nat) (l2 : Int32) (l3 : Option Nat)   (σ : Hp) (h : X9_joined_c53 l0 l2 l3 σ = some q) : J γ mX9_joined (σ0, .inr (some (va_rf q.1)), q.2) σ 53 [(0, 1, va_rf l0), (2, 1, .int l2), (3, 1, va_rf l3)] [] := by
  unfold X9_joined_c53 at h
  refine J_aload_n (i := 0) 0 54 dX9_joined_53 rfl rfl rfl ?_
  refine J_iload_n (i := 2) 1 55 dX9_joined_54 rfl rfl rfl ?_
  obtain ⟨σ1, hσ1, h⟩ := some_of_bind h
  refine J_pI 58 dX9_joined_55 rfl pk_r_334 hσ1 ?_
  refine J_aload_n (i := 3) 2 59 dX9_joined_58 rfl rfl rfl ?_
  exact J_aret rfl (Or.inl ⟨_, rfl⟩) dX9_joined_59 (retR h)
def X9_joined (l0 : Option Nat) (l1 : Int32) (l2 : Int32) (σ : Hp) : Option (Option Nat × Hp) :=
  (gR σ l0 [10, 23] 5).bind fun v1 =>
  (aR 11 σ v1 l2).bind fun v2 =>
  (gI σ l0 [10, 23] 4).bind fun v3 =>
  if (v3 - l2) ≤ (1 : Int32) then
    X9_joined_c53  l0 l2 v2  σ
  else
    (gI σ l0 [10, 23] 4).bind fun v5 =>
    (nA 11 σ (v5 - l2)).bind fun σ6 =>
    (gR σ6 l0 [10, 23] 5).bind fun v7 =>
    (aN σ6 (some (hsz σ))).bind fun v8 =>
    (cpR 11 11 σ6 v7 l2 (some (hsz σ)) (0 : Int32) v8).bind fun σ9 =>
    (some (hsz σ9)).bind fun b11 =>
    (X21_init (some (hsz σ9)) l1 (some (hsz σ)) (wN σ9 21 0 2)).bind fun q10 =>
    X9_joined_c53  l0 l2 (some (hsz σ9))  q10
set_option maxHeartbeats 4000000 in
theorem sX9_joined {γ : GP} (hγ : GOK γ) (l0 : Option Nat) (l1 : Int32) (l2 : Int32) (σ : Hp) (q : (Option Nat × Hp)) (h : X9_joined l0 l1 l2 σ = some q) : Rn γ mX9_joined yX9_joined [va_rf l0, .int l1, .int l2] (σ, .inr (some (va_rf q.1)), q.2) := by
  refine J_m hγ ykX9_joined rfl [(1, va_rf l0), (1, .int l1), (1, .int l2)] (cats_r (cats_i (cats_i cats_nil))) (Nat.le_of_ble_eq_true rfl) ?_
  show J γ mX9_joined _ σ 0 [(0, 1, va_rf l0), (1, 1, .int l1), (2, 1, .int l2)] []
  unfold X9_joined at h
  refine J_aload_n (i := 0) 0 1 dX9_joined_0 rfl rfl rfl ?_
  obtain ⟨v1, hv1, h⟩ := some_of_bind h
  refine J_gR 4 dX9_joined_1 rfl fk_r_332 hv1 ?_
  refine J_iload_n (i := 2) 2 5 dX9_joined_4 rfl rfl rfl ?_
  obtain ⟨v2, hv2, h⟩ := some_of_bind h
  refine J_aald 11 (by decide) (by decide) rfl 6 dX9_joined_5 rfl hv2 ?_
  refine J_astore_n (i := 3) 7 [(3, 1, va_rf v2), (0, 1, va_rf l0), (1, 1, .int l1), (2, 1, .int l2)] dX9_joined_6 rfl rfl (Nat.le_of_ble_eq_true rfl) rfl ?_
  refine J_aload_n (i := 0) 1 8 dX9_joined_7 rfl rfl rfl ?_
  obtain ⟨v3, hv3, h⟩ := some_of_bind h
  refine J_gI 11 dX9_joined_8 rfl fk_r_333 hv3 ?_
  refine J_iload_n (i := 2) 3 12 dX9_joined_11 rfl rfl rfl ?_
  refine J_isub 13 dX9_joined_12 rfl ?_
  refine J_ic 14 dX9_joined_13 rfl (1 : Int32) kic_1 ?_
  refine J_icmp_le 53 17 dX9_joined_14 (by decide) rfl (fun c4 => ?_) (fun c4 => ?_)
  · rw [if_pos c4] at h
    refine J.pick [1, 3, 0] rfl ?_
    exact jX9_joined_c53 hγ l0 l2 v2  σ h
  · rw [if_neg c4] at h
    refine J_aload_n (i := 0) 1 18 dX9_joined_17 rfl rfl rfl ?_
    obtain ⟨v5, hv5, h⟩ := some_of_bind h
    refine J_gI 21 dX9_joined_18 rfl fk_r_333 hv5 ?_
    refine J_iload_n (i := 2) 3 22 dX9_joined_21 rfl rfl rfl ?_
    refine J_isub 23 dX9_joined_22 rfl ?_
    obtain ⟨σ6, hσ6, h⟩ := some_of_bind h
    refine J_anew 11 (by decide) (by decide) rfl q1067 q1068 26 dX9_joined_23 rfl hσ6 ?_
    refine J_astore (i := 4) 28 [(4, 1, va_rf (some (hsz σ))), (3, 1, va_rf v2), (0, 1, va_rf l0), (1, 1, .int l1), (2, 1, .int l2)] dX9_joined_26 rfl (Nat.le_of_ble_eq_true rfl) rfl ?_
    refine J_aload_n (i := 0) 2 29 dX9_joined_28 rfl rfl rfl ?_
    obtain ⟨v7, hv7, h⟩ := some_of_bind h
    refine J_gR 32 dX9_joined_29 rfl fk_r_332 hv7 ?_
    refine J_iload_n (i := 2) 4 33 dX9_joined_32 rfl rfl rfl ?_
    refine J_aload (i := 4) 0 35 dX9_joined_33 rfl rfl ?_
    refine J_ic 36 dX9_joined_35 rfl (0 : Int32) kic_0 ?_
    refine J_aload (i := 4) 0 38 dX9_joined_36 rfl rfl ?_
    obtain ⟨v8, hv8, h⟩ := some_of_bind h
    refine J_alen 39 dX9_joined_38 rfl hv8 ?_
    obtain ⟨σ9, hσ9, h⟩ := some_of_bind h
    refine J_cpR 11 11 (by decide) (by decide) (by decide) (by decide) q1388 (Nat.le_of_ble_eq_true rfl) cs_nil (by decide) 42 dX9_joined_39 rfl hσ9 ?_
    refine J_new (c9 := 21) (nsl := 2) rfl (by decide) (by decide +kernel) q1389 q1390 q168 45 dX9_joined_42 rfl ?_
    refine J_dupr 46 dX9_joined_45 rfl ?_
    refine J_iload_n (i := 1) 3 47 dX9_joined_46 rfl rfl rfl ?_
    refine J_aload (i := 4) 0 49 dX9_joined_47 rfl rfl ?_
    obtain ⟨b11, hb11, h⟩ := some_of_bind h
    obtain ⟨q10, hq10, h⟩ := some_of_bind h
    refine J_cI 52 dX9_joined_49 rfl ykX21_init rfl (Or.inl q1391) q1392 rfl (Nat.le_of_ble_eq_true rfl) (cs_rf cs_nil) (by decide) [.int l1, va_rf (some (hsz σ))] hb11 rfl rfl (sX21_init hγ (some (hsz σ9)) l1 (some (hsz σ)) (wN σ9 21 0 2) q10 hq10) ?_
    refine J_astore_n (i := 3) 53 [(3, 1, va_rf (some (hsz σ9))), (4, 1, va_rf (some (hsz σ))), (0, 1, va_rf l0), (1, 1, .int l1), (2, 1, .int l2)] dX9_joined_52 rfl rfl (Nat.le_of_ble_eq_true rfl) rfl ?_
    refine J.pick [2, 4, 0] rfl ?_
    exact jX9_joined_c53 hγ l0 l2 (some (hsz σ9))  q10 h
abbrev mX12_init : MP := (cX12_init, "MissCurves$Sum", 1, (Option.none : Option FieldType), 1, "<init>", [])
theorem ykX12_init : YK yX12_init mX12_init 0 := ⟨q1256, q159, ⟨by decide, by decide⟩, by decide +kernel, Nat.le_of_ble_eq_true rfl, by decide, rfl, rfl⟩
def X12_init (l0 : Option Nat) (σ : Hp) : Option Hp :=
  l0.bind fun b1 =>
  some σ
set_option maxHeartbeats 4000000 in
theorem sX12_init {γ : GP} (hγ : GOK γ) (l0 : Option Nat) (σ : Hp) (q : Hp) (h : X12_init l0 σ = some q) : Rn γ mX12_init yX12_init [va_rf l0] (σ, .inr none, q) := by
  refine J_m hγ ykX12_init rfl [(1, va_rf l0)] (cats_r cats_nil) (Nat.le_of_ble_eq_true rfl) ?_
  show J γ mX12_init _ σ 0 [(0, 1, va_rf l0)] []
  unfold X12_init at h
  refine J_aload_n (i := 0) 0 1 dX12_init_0 rfl rfl rfl ?_
  obtain ⟨b1, hb1, h⟩ := some_of_bind h
  refine J_oI hb1 q1257 (Nat.le_of_ble_eq_true rfl) cs_nil (by decide) 4 dX12_init_1 rfl ?_
  exact J_vret rfl dX12_init_4 (retV h)
abbrev mX14_init : MP := (cX14_init, "MissCurves$Part", 2, (Option.none : Option FieldType), 2, "<init>", [])
theorem ykX14_init : YK yX14_init mX14_init 1 := ⟨q1273, q161, ⟨by decide, by decide⟩, by decide +kernel, Nat.le_of_ble_eq_true rfl, by decide, rfl, rfl⟩
theorem pk_r_337 : POK "MissCurves$Part" "<init>" 7 [14] 0 .int := POK.one (by decide) rfl (Nat.le_of_ble_eq_true rfl) (Or.inl ⟨_, q1275, Or.inl rfl⟩) rfl (by decide +kernel) (Or.inr ⟨rfl, rfl, rfl, _, q1275, Or.inl rfl⟩)
def X14_init (l0 : Option Nat) (l1 : Int32) (σ : Hp) : Option Hp :=
  l0.bind fun b2 =>
  (X12_init l0  σ).bind fun q1 =>
  (pI q1 l0 [14] 0 l1).bind fun σ3 =>
  some σ3
set_option maxHeartbeats 4000000 in
theorem sX14_init {γ : GP} (hγ : GOK γ) (l0 : Option Nat) (l1 : Int32) (σ : Hp) (q : Hp) (h : X14_init l0 l1 σ = some q) : Rn γ mX14_init yX14_init [va_rf l0, .int l1] (σ, .inr none, q) := by
  refine J_m hγ ykX14_init rfl [(1, va_rf l0), (1, .int l1)] (cats_r (cats_i cats_nil)) (Nat.le_of_ble_eq_true rfl) ?_
  show J γ mX14_init _ σ 0 [(0, 1, va_rf l0), (1, 1, .int l1)] []
  unfold X14_init at h
  refine J_aload_n (i := 0) 0 1 dX14_init_0 rfl rfl rfl ?_
  obtain ⟨b2, hb2, h⟩ := some_of_bind h
  obtain ⟨q1, hq1, h⟩ := some_of_bind h
  refine J_cI 4 dX14_init_1 rfl ykX12_init rfl (Or.inr ⟨_, q1274⟩) q1255 rfl (Nat.le_of_ble_eq_true rfl) cs_nil (by decide) [] hb2 rfl rfl (sX12_init hγ l0  σ q1 hq1) ?_
  refine J_aload_n (i := 0) 0 5 dX14_init_4 rfl rfl rfl ?_
  refine J_iload_n (i := 1) 1 6 dX14_init_5 rfl rfl rfl ?_
  obtain ⟨σ3, hσ3, h⟩ := some_of_bind h
  refine J_pI 9 dX14_init_6 rfl pk_r_337 hσ3 ?_
  exact J_vret rfl dX14_init_9 (retV h)
abbrev mX9_behindWord : MP := (cX9_behindWord, "MissCurves$Reader", 2, (Option.some (FieldType.object "MissCurves$Sum")), 3, "behindWord", [])
theorem ykX9_behindWord : YK yX9_behindWord mX9_behindWord 1 := ⟨q1299, q156, ⟨by decide, by decide⟩, by decide +kernel, Nat.le_of_ble_eq_true rfl, by decide, rfl, rfl⟩
def X9_behindWord (l0 : Option Nat) (l1 : Int32) (σ : Hp) : Option ((Nat ⊕ Option Nat) × Hp) :=
  (some (hsz σ)).bind fun b2 =>
  (X14_init (some (hsz σ)) l1 (wN σ 14 0 1)).bind fun q1 =>
  some (Sum.inr (some (hsz σ)), q1)
set_option maxHeartbeats 4000000 in
theorem sX9_behindWord {γ : GP} (hγ : GOK γ) (l0 : Option Nat) (l1 : Int32) (σ : Hp) (q : ((Nat ⊕ Option Nat) × Hp)) (h : X9_behindWord l0 l1 σ = some q) : Rn γ mX9_behindWord yX9_behindWord [va_rf l0, .int l1] (σ, fxR q.1, q.2) := by
  refine J_mX hγ ykX9_behindWord rfl [(1, va_rf l0), (1, .int l1)] (cats_r (cats_i cats_nil)) (Nat.le_of_ble_eq_true rfl) ?_
  show J γ mX9_behindWord _ σ 0 [(0, 1, va_rf l0), (1, 1, .int l1)] []
  unfold X9_behindWord at h
  refine J_new (c9 := 14) (nsl := 1) rfl (by decide) (by decide +kernel) q1300 q1270 q161 3 dX9_behindWord_0 rfl ?_
  refine J_dupr 4 dX9_behindWord_3 rfl ?_
  refine J_iload_n (i := 1) 1 5 dX9_behindWord_4 rfl rfl rfl ?_
  obtain ⟨b2, hb2, h⟩ := some_of_bind h
  obtain ⟨q1, hq1, h⟩ := some_of_bind h
  refine J_cI 8 dX9_behindWord_5 rfl ykX14_init rfl (Or.inl q1301) q1272 rfl (Nat.le_of_ble_eq_true rfl) (cs_rf cs_nil) (by decide) [.int l1] hb2 rfl rfl (sX14_init hγ (some (hsz σ)) l1 (wN σ 14 0 1) q1 hq1) ?_
  exact J_aret rfl (Or.inl ⟨_, rfl⟩) dX9_behindWord_8 (retRX h)
abbrev mX15_init : MP := (cX15_init, "MissCurves$Of", 4, (Option.none : Option FieldType), 2, "<init>", [])
theorem ykX15_init : YK yX15_init mX15_init 3 := ⟨q1287, q162, ⟨by decide, by decide⟩, by decide +kernel, Nat.le_of_ble_eq_true rfl, by decide, rfl, rfl⟩
theorem pk_r_338 : POK "MissCurves$Of" "<init>" 1 [15] 2 (.object "MissCurves") := POK.one (by decide) rfl (Nat.le_of_ble_eq_true rfl) (Or.inl ⟨_, q1291, Or.inl rfl⟩) rfl (by decide +kernel) (Or.inr ⟨rfl, rfl, rfl, _, q1291, Or.inl rfl⟩)
theorem pk_r_339 : POK "MissCurves$Of" "<init>" 13 [15] 0 .int := POK.one (by decide) rfl (Nat.le_of_ble_eq_true rfl) (Or.inl ⟨_, q1289, Or.inl rfl⟩) rfl (by decide +kernel) (Or.inr ⟨rfl, rfl, rfl, _, q1289, Or.inl rfl⟩)
theorem pk_r_340 : POK "MissCurves$Of" "<init>" 17 [15] 1 .int := POK.one (by decide) rfl (Nat.le_of_ble_eq_true rfl) (Or.inl ⟨_, q1290, Or.inl rfl⟩) rfl (by decide +kernel) (Or.inr ⟨rfl, rfl, rfl, _, q1290, Or.inl rfl⟩)
def X15_init (l0 : Option Nat) (l1 : Option Nat) (l2 : Int32) (l3 : Int32) (σ : Hp) : Option Hp :=
  (pR σ l0 [15] 2 l1).bind fun σ1 =>
  l0.bind fun b3 =>
  (X12_init l0  σ1).bind fun q2 =>
  (pI q2 l0 [15] 0 l2).bind fun σ4 =>
  (pI σ4 l0 [15] 1 l3).bind fun σ5 =>
  some σ5
set_option maxHeartbeats 4000000 in
theorem sX15_init {γ : GP} (hγ : GOK γ) (l0 : Option Nat) (l1 : Option Nat) (l2 : Int32) (l3 : Int32) (σ : Hp) (q : Hp) (h : X15_init l0 l1 l2 l3 σ = some q) : Rn γ mX15_init yX15_init [va_rf l0, va_rf l1, .int l2, .int l3] (σ, .inr none, q) := by
  refine J_m hγ ykX15_init rfl [(1, va_rf l0), (1, va_rf l1), (1, .int l2), (1, .int l3)] (cats_r (cats_r (cats_i (cats_i cats_nil)))) (Nat.le_of_ble_eq_true rfl) ?_
  show J γ mX15_init _ σ 0 [(0, 1, va_rf l0), (1, 1, va_rf l1), (2, 1, .int l2), (3, 1, .int l3)] []
  unfold X15_init at h
  refine J_aload_n (i := 0) 0 1 dX15_init_0 rfl rfl rfl ?_
  refine J_aload_n (i := 1) 1 2 dX15_init_1 rfl rfl rfl ?_
  obtain ⟨σ1, hσ1, h⟩ := some_of_bind h
  refine J_pR rfl 5 dX15_init_2 rfl pk_r_338 hσ1 ?_
  refine J_aload_n (i := 0) 0 6 dX15_init_5 rfl rfl rfl ?_
  obtain ⟨b3, hb3, h⟩ := some_of_bind h
  obtain ⟨q2, hq2, h⟩ := some_of_bind h
  refine J_cI 9 dX15_init_6 rfl ykX12_init rfl (Or.inr ⟨_, q1288⟩) q1255 rfl (Nat.le_of_ble_eq_true rfl) cs_nil (by decide) [] hb3 rfl rfl (sX12_init hγ l0  σ1 q2 hq2) ?_
  refine J_aload_n (i := 0) 0 10 dX15_init_9 rfl rfl rfl ?_
  refine J_iload_n (i := 2) 2 11 dX15_init_10 rfl rfl rfl ?_
  obtain ⟨σ4, hσ4, h⟩ := some_of_bind h
  refine J_pI 14 dX15_init_11 rfl pk_r_339 hσ4 ?_
  refine J_aload_n (i := 0) 0 15 dX15_init_14 rfl rfl rfl ?_
  refine J_iload_n (i := 3) 3 16 dX15_init_15 rfl rfl rfl ?_
  obtain ⟨σ5, hσ5, h⟩ := some_of_bind h
  refine J_pI 19 dX15_init_16 rfl pk_r_340 hσ5 ?_
  exact J_vret rfl dX15_init_19 (retV h)
abbrev mX23_behindWord : MP := (cX23_behindWord, "MissCurves$OrderReader", 2, (Option.some (FieldType.object "MissCurves$Sum")), 6, "behindWord", [])
theorem ykX23_behindWord : YK yX23_behindWord mX23_behindWord 1 := ⟨q1268, q170, ⟨by decide, by decide⟩, by decide +kernel, Nat.le_of_ble_eq_true rfl, by decide, rfl, rfl⟩
theorem fk_r_341 : FOK "MissCurves$OrderReader" 3 [23] 9 isR := FOK.one (by decide) rfl (Nat.le_of_ble_eq_true rfl) (Or.inl ⟨_, q2071, Or.inl rfl⟩) rfl
def X23_behindWord (l0 : Option Nat) (l1 : Int32) (σ : Hp) : Option ((Nat ⊕ Option Nat) × Hp) :=
  if (3 : Int32) ≤ l1 then
    (gR (wN σ 15 0 3) l0 [23] 9).bind fun v2 =>
    (cT (wN σ 15 0 3) l0 23).bind fun b4 =>
    (X9_number l0 (3 : Int32) (wN σ 15 0 3)).bind fun q3 =>
    bT q3 fun w5 =>
    (some (hsz σ)).bind fun b8 =>
    (X15_init (some (hsz σ)) v2 l1 w5 q3.2).bind fun q7 =>
    some (Sum.inr (some (hsz σ)), q7)
  else
    (some (hsz σ)).bind fun b10 =>
    (X14_init (some (hsz σ)) l1 (wN σ 14 0 1)).bind fun q9 =>
    some (Sum.inr (some (hsz σ)), q9)
set_option maxHeartbeats 4000000 in
theorem sX23_behindWord {γ : GP} (hγ : GOK γ) (l0 : Option Nat) (l1 : Int32) (σ : Hp) (q : ((Nat ⊕ Option Nat) × Hp)) (h : X23_behindWord l0 l1 σ = some q) : Rn γ mX23_behindWord yX23_behindWord [va_rf l0, .int l1] (σ, fxR q.1, q.2) := by
  refine J_mX hγ ykX23_behindWord rfl [(1, va_rf l0), (1, .int l1)] (cats_r (cats_i cats_nil)) (Nat.le_of_ble_eq_true rfl) ?_
  show J γ mX23_behindWord _ σ 0 [(0, 1, va_rf l0), (1, 1, .int l1)] []
  unfold X23_behindWord at h
  refine J_iload_n (i := 1) 1 1 dX23_behindWord_0 rfl rfl rfl ?_
  refine J_ic 2 dX23_behindWord_1 rfl (3 : Int32) kic_3 ?_
  refine J_icmp_ge 16 5 dX23_behindWord_2 (by decide) rfl (fun c1 => ?_) (fun c1 => ?_)
  · rw [if_pos c1] at h
    refine J_new (c9 := 15) (nsl := 3) rfl (by decide) (by decide +kernel) q1279 q1280 q162 19 dX23_behindWord_16 rfl ?_
    refine J_dupr 20 dX23_behindWord_19 rfl ?_
    refine J_aload_n (i := 0) 0 21 dX23_behindWord_20 rfl rfl rfl ?_
    obtain ⟨v2, hv2, h⟩ := some_of_bind h
    refine J_gR 24 dX23_behindWord_21 rfl fk_r_341 hv2 ?_
    refine J_iload_n (i := 1) 1 25 dX23_behindWord_24 rfl rfl rfl ?_
    refine J_aload_n (i := 0) 0 26 dX23_behindWord_25 rfl rfl rfl ?_
    refine J_ic 27 dX23_behindWord_26 rfl (3 : Int32) kic_3 ?_
    obtain ⟨b4, hb4, h⟩ := some_of_bind h
    obtain ⟨q3, hq3, h⟩ := some_of_bind h
    rcases bT_of h with ⟨a6, ha6, ht, hq⟩ | ⟨w5, hw5, h⟩
    · exact J_cUT (na := 1) (D := 5) dX23_behindWord_27 q1281 q1282 q1283 ⟨by decide, by decide, by decide +kernel⟩ (Nat.le_of_ble_eq_true rfl) (cs_int (cs_rf (cs_rf (cs_rf cs_nil)))) (by decide) [.int (3 : Int32)] rfl rfl (UR.of (c9 := 23) hb4 (by decide) rfl ykX9_number q1284 q1246 (Nat.le_refl _) (by have hx := sX9_number hγ l0 (3 : Int32) (wN σ 15 0 3) q3 hq3; rw [ha6] at hx; exact hx)) (JT_out rfl ht (thrR hq))
    · refine J_cUi (na := 1) (D := 5) 30 dX23_behindWord_27 rfl q1281 q1282 q1283 ⟨by decide, by decide, by decide +kernel⟩ (Nat.le_of_ble_eq_true rfl) (cs_int (cs_rf (cs_rf (cs_rf cs_nil)))) (by decide) [.int (3 : Int32)] rfl rfl (UR.of (c9 := 23) hb4 (by decide) rfl ykX9_number q1284 q1246 (Nat.le_refl _) (by have hx := sX9_number hγ l0 (3 : Int32) (wN σ 15 0 3) q3 hq3; rw [hw5] at hx; exact hx)) ?_
      obtain ⟨b8, hb8, h⟩ := some_of_bind h
      obtain ⟨q7, hq7, h⟩ := some_of_bind h
      refine J_cI 33 dX23_behindWord_30 rfl ykX15_init rfl (Or.inl q1285) q1286 rfl (Nat.le_of_ble_eq_true rfl) (cs_rf cs_nil) (by decide) [va_rf v2, .int l1, .int w5] hb8 rfl rfl (sX15_init hγ (some (hsz σ)) v2 l1 w5 q3.2 q7 hq7) ?_
      exact J_aret rfl (Or.inl ⟨_, rfl⟩) dX23_behindWord_33 (retRX h)
  · rw [if_neg c1] at h
    refine J_new (c9 := 14) (nsl := 1) rfl (by decide) (by decide +kernel) q1269 q1270 q161 8 dX23_behindWord_5 rfl ?_
    refine J_dupr 9 dX23_behindWord_8 rfl ?_
    refine J_iload_n (i := 1) 1 10 dX23_behindWord_9 rfl rfl rfl ?_
    obtain ⟨b10, hb10, h⟩ := some_of_bind h
    obtain ⟨q9, hq9, h⟩ := some_of_bind h
    refine J_cI 13 dX23_behindWord_10 rfl ykX14_init rfl (Or.inl q1271) q1272 rfl (Nat.le_of_ble_eq_true rfl) (cs_rf cs_nil) (by decide) [.int l1] hb10 rfl rfl (sX14_init hγ (some (hsz σ)) l1 (wN σ 14 0 1) q9 hq9) ?_
    refine J_goto 33 dX23_behindWord_13 (by decide) ?_
    exact J_aret rfl (Or.inl ⟨_, rfl⟩) dX23_behindWord_33 (retRX h)
def vBehind (x0 : Option Nat) (x1 : Int32) (σ : Hp) : Option ((Nat ⊕ Option Nat) × Hp) := x0.bind fun a => if htg σ a = 10 then X9_behindWord x0 x1 σ else if htg σ a = 23 then X23_behindWord x0 x1 σ else none
theorem svBehind {γ : GP} (hγ : GOK γ) (x0 : Option Nat) (x1 : Int32) (σ : Hp) (q : ((Nat ⊕ Option Nat) × Hp)) (h : vBehind x0 x1 σ = some q) : UR γ 6 ({ cls := "MissCurves$Reader", name := "behindWord", desc := "(I)LMissCurves$Sum;" } : MethodName) 1 x0 [.int x1] (σ, fxR q.1, q.2) := by
  unfold vBehind at h
  obtain ⟨a, ha, h⟩ := some_of_bind h
  rcases Classical.em (htg σ a = 10) with c0 | c0
  · rw [if_pos c0] at h
    exact (UR.of (c9 := 10) (b := a) (show cT σ x0 10 = some a by rw [ha]; exact if_pos c0) (by decide) rfl ykX9_behindWord q1265 q1263 (show 3 ≤ 6 by omega) (sX9_behindWord hγ x0 x1 σ q h))
  · rw [if_neg c0] at h
    rcases Classical.em (htg σ a = 23) with c1 | c1
    · rw [if_pos c1] at h
      exact (UR.of (c9 := 23) (b := a) (show cT σ x0 23 = some a by rw [ha]; exact if_pos c1) (by decide) rfl ykX23_behindWord q1266 q1267 (show 6 ≤ 6 by omega) (sX23_behindWord hγ x0 x1 σ q h))
    · rw [if_neg c1] at h
      cases h
abbrev mX13_init : MP := (cX13_init, "MissCurves$Amount", 2, (Option.none : Option FieldType), 2, "<init>", [])
theorem ykX13_init : YK yX13_init mX13_init 1 := ⟨q1253, q160, ⟨by decide, by decide⟩, by decide +kernel, Nat.le_of_ble_eq_true rfl, by decide, rfl, rfl⟩
theorem pk_r_342 : POK "MissCurves$Amount" "<init>" 7 [13] 0 .int := POK.one (by decide) rfl (Nat.le_of_ble_eq_true rfl) (Or.inl ⟨_, q1258, Or.inl rfl⟩) rfl (by decide +kernel) (Or.inr ⟨rfl, rfl, rfl, _, q1258, Or.inl rfl⟩)
def X13_init (l0 : Option Nat) (l1 : Int32) (σ : Hp) : Option Hp :=
  l0.bind fun b2 =>
  (X12_init l0  σ).bind fun q1 =>
  (pI q1 l0 [13] 0 l1).bind fun σ3 =>
  some σ3
set_option maxHeartbeats 4000000 in
theorem sX13_init {γ : GP} (hγ : GOK γ) (l0 : Option Nat) (l1 : Int32) (σ : Hp) (q : Hp) (h : X13_init l0 l1 σ = some q) : Rn γ mX13_init yX13_init [va_rf l0, .int l1] (σ, .inr none, q) := by
  refine J_m hγ ykX13_init rfl [(1, va_rf l0), (1, .int l1)] (cats_r (cats_i cats_nil)) (Nat.le_of_ble_eq_true rfl) ?_
  show J γ mX13_init _ σ 0 [(0, 1, va_rf l0), (1, 1, .int l1)] []
  unfold X13_init at h
  refine J_aload_n (i := 0) 0 1 dX13_init_0 rfl rfl rfl ?_
  obtain ⟨b2, hb2, h⟩ := some_of_bind h
  obtain ⟨q1, hq1, h⟩ := some_of_bind h
  refine J_cI 4 dX13_init_1 rfl ykX12_init rfl (Or.inr ⟨_, q1254⟩) q1255 rfl (Nat.le_of_ble_eq_true rfl) cs_nil (by decide) [] hb2 rfl rfl (sX12_init hγ l0  σ q1 hq1) ?_
  refine J_aload_n (i := 0) 0 5 dX13_init_4 rfl rfl rfl ?_
  refine J_iload_n (i := 1) 1 6 dX13_init_5 rfl rfl rfl ?_
  obtain ⟨σ3, hσ3, h⟩ := some_of_bind h
  refine J_pI 9 dX13_init_6 rfl pk_r_342 hσ3 ?_
  exact J_vret rfl dX13_init_9 (retV h)
abbrev mX16_init : MP := (cX16_init, "MissCurves$Joined", 4, (Option.none : Option FieldType), 2, "<init>", [])
theorem ykX16_init : YK yX16_init mX16_init 3 := ⟨q1309, q163, ⟨by decide, by decide⟩, by decide +kernel, Nat.le_of_ble_eq_true rfl, by decide, rfl, rfl⟩
theorem pk_r_343 : POK "MissCurves$Joined" "<init>" 7 [16] 0 (.object "MissCurves$Sum") := POK.one (by decide) rfl (Nat.le_of_ble_eq_true rfl) (Or.inl ⟨_, q1311, Or.inl rfl⟩) rfl (by decide +kernel) (Or.inr ⟨rfl, rfl, rfl, _, q1311, Or.inl rfl⟩)
theorem pk_r_344 : POK "MissCurves$Joined" "<init>" 13 [16] 2 .int := POK.one (by decide) rfl (Nat.le_of_ble_eq_true rfl) (Or.inl ⟨_, q1313, Or.inl rfl⟩) rfl (by decide +kernel) (Or.inr ⟨rfl, rfl, rfl, _, q1313, Or.inl rfl⟩)
theorem pk_r_345 : POK "MissCurves$Joined" "<init>" 17 [16] 1 (.object "MissCurves$Sum") := POK.one (by decide) rfl (Nat.le_of_ble_eq_true rfl) (Or.inl ⟨_, q1312, Or.inl rfl⟩) rfl (by decide +kernel) (Or.inr ⟨rfl, rfl, rfl, _, q1312, Or.inl rfl⟩)
def X16_init (l0 : Option Nat) (l1 : Option Nat) (l2 : Int32) (l3 : Option Nat) (σ : Hp) : Option Hp :=
  l0.bind fun b2 =>
  (X12_init l0  σ).bind fun q1 =>
  (pR q1 l0 [16] 0 l1).bind fun σ3 =>
  (pI σ3 l0 [16] 2 l2).bind fun σ4 =>
  (pR σ4 l0 [16] 1 l3).bind fun σ5 =>
  some σ5
set_option maxHeartbeats 4000000 in
theorem sX16_init {γ : GP} (hγ : GOK γ) (l0 : Option Nat) (l1 : Option Nat) (l2 : Int32) (l3 : Option Nat) (σ : Hp) (q : Hp) (h : X16_init l0 l1 l2 l3 σ = some q) : Rn γ mX16_init yX16_init [va_rf l0, va_rf l1, .int l2, va_rf l3] (σ, .inr none, q) := by
  refine J_m hγ ykX16_init rfl [(1, va_rf l0), (1, va_rf l1), (1, .int l2), (1, va_rf l3)] (cats_r (cats_r (cats_i (cats_r cats_nil)))) (Nat.le_of_ble_eq_true rfl) ?_
  show J γ mX16_init _ σ 0 [(0, 1, va_rf l0), (1, 1, va_rf l1), (2, 1, .int l2), (3, 1, va_rf l3)] []
  unfold X16_init at h
  refine J_aload_n (i := 0) 0 1 dX16_init_0 rfl rfl rfl ?_
  obtain ⟨b2, hb2, h⟩ := some_of_bind h
  obtain ⟨q1, hq1, h⟩ := some_of_bind h
  refine J_cI 4 dX16_init_1 rfl ykX12_init rfl (Or.inr ⟨_, q1310⟩) q1255 rfl (Nat.le_of_ble_eq_true rfl) cs_nil (by decide) [] hb2 rfl rfl (sX12_init hγ l0  σ q1 hq1) ?_
  refine J_aload_n (i := 0) 0 5 dX16_init_4 rfl rfl rfl ?_
  refine J_aload_n (i := 1) 1 6 dX16_init_5 rfl rfl rfl ?_
  obtain ⟨σ3, hσ3, h⟩ := some_of_bind h
  refine J_pR rfl 9 dX16_init_6 rfl pk_r_343 hσ3 ?_
  refine J_aload_n (i := 0) 0 10 dX16_init_9 rfl rfl rfl ?_
  refine J_iload_n (i := 2) 2 11 dX16_init_10 rfl rfl rfl ?_
  obtain ⟨σ4, hσ4, h⟩ := some_of_bind h
  refine J_pI 14 dX16_init_11 rfl pk_r_344 hσ4 ?_
  refine J_aload_n (i := 0) 0 15 dX16_init_14 rfl rfl rfl ?_
  refine J_aload_n (i := 3) 3 16 dX16_init_15 rfl rfl rfl ?_
  obtain ⟨σ5, hσ5, h⟩ := some_of_bind h
  refine J_pR rfl 19 dX16_init_16 rfl pk_r_345 hσ5 ?_
  exact J_vret rfl dX16_init_19 (retV h)
abbrev mX9_sum (d : Nat) : MP := (cX9_sum, "MissCurves$Reader", 3, (Option.some (FieldType.object "MissCurves$Sum")), 10 + 3 * d, "sum", [])
theorem ykX9_sum (d : Nat) : YK yX9_sum (mX9_sum d) 0 := ⟨q1212, q156, ⟨by decide, by decide⟩, by decide +kernel, Nat.le_of_ble_eq_true rfl, by decide, rfl, rfl⟩
abbrev mX9_part (d : Nat) : MP := (cX9_part, "MissCurves$Reader", 2, (Option.some (FieldType.object "MissCurves$Sum")), 10 + 3 * d + 1, "part", [])
theorem ykX9_part (d : Nat) : YK yX9_part (mX9_part d) 0 := ⟨q1220, q156, ⟨by decide, by decide⟩, by decide +kernel, Nat.le_of_ble_eq_true rfl, by decide, rfl, rfl⟩
theorem fk_r_346 : FOK "MissCurves$Reader" 21 [10, 23] 6 isR := FOK.cons (by decide) rfl (Nat.le_of_ble_eq_true rfl) (Or.inl ⟨_, q1085, Or.inl rfl⟩) rfl (FOK.one (by decide) rfl (Nat.le_of_ble_eq_true rfl) (Or.inl ⟨_, q1085, Or.inl rfl⟩) rfl)
def X9_part_c78 (rec : Option Nat → Hp → Option ((Nat ⊕ Option Nat) × Hp))  (l0 : Option Nat) (l1 : Int32) (s0 : Option Nat) (s1 : Int32) (σ : Hp) : Option ((Nat ⊕ Option Nat) × Hp) :=
  (cT2 σ s0 10 23).bind fun b2 =>
  (X9_must s0 s1 σ).bind fun q1 =>
  bT q1 fun w3 =>
  if l1 = (-1 : Int32) then
    (cT2 q1.2 l0 10 23).bind fun b16 =>
    (X9_leaf l0  q1.2).bind fun q15 =>
    bT q15 fun w17 =>
    (cT2 (wN q15.2 13 0 1) l0 10 23).bind fun b20 =>
    (X9_number l0 (1000 : Int32) (wN q15.2 13 0 1)).bind fun q19 =>
    bT q19 fun w21 =>
    (some (hsz q15.2)).bind fun b24 =>
    (X13_init (some (hsz q15.2)) w21 q19.2).bind fun q23 =>
    some (Sum.inr (some (hsz q15.2)), q23)
  else
    (cT2 q1.2 l0 10 23).bind fun b7 =>
    (X9_leaf l0  q1.2).bind fun q6 =>
    bT q6 fun w8 =>
    (cT2 q6.2 l0 10 23).bind fun b11 =>
    (X9_next l0  q6.2).bind fun q10 =>
    (vBehind l0 l1 q10).bind fun q12 =>
    bT q12 fun w13 =>
    some (Sum.inr w13, q12.2)
set_option maxHeartbeats 4000000 in
theorem jX9_part_c78 {γ : GP} {σ0 : Hp} {q : ((Nat ⊕ Option Nat) × Hp)} (hγ : GOK γ) {d : Nat} (rec : Option Nat → Hp → Option ((Nat ⊕ Option Nat) × Hp)) (hrec : ∀ (x0 : Option Nat) (σ : Hp) (q : ((Nat ⊕ Option Nat) × Hp)), rec x0 σ = some q → Rn γ (mX9_sum d) yX9_sum [va_rf x0] (σ, fxR q.1, q.2)) (l0 : Option Nat) (l1 : Int32)  (s0 : Option Nat) (s1 : Int32) (σ : Hp) (h : X9_part_c78 rec l0 l1 s0 s1 σ = some q) : J γ (mX9_part d) (σ0, fxR q.1, q.2) σ 78 [(0, 1, va_rf l0), (1, 1, .int l1)] [.int s1, va_rf s0] := by
  unfold X9_part_c78 at h
  obtain ⟨b2, hb2, h⟩ := some_of_bind h
  obtain ⟨q1, hq1, h⟩ := some_of_bind h
  rcases bT_of h with ⟨a4, ha4, ht, hq⟩ | ⟨w3, hw3, h⟩
  · exact J_cWT dX9_part_78 ykX9_must (Or.inl q1132) q1133 (show (4) + 1 ≤ 10 + 3 * d + 1 by omega) cs_nil (by decide) [.int s1] (RC.two hb2 (by decide) (by decide) rfl rfl q1135 q1136) rfl rfl (by have hx := sX9_must hγ s0 s1 σ q1 hq1; rw [ha4] at hx; exact hx) (JT_out rfl ht (thrR hq))
  · refine J_cWv 81 dX9_part_78 rfl ykX9_must (Or.inl q1132) q1133 (show (4) + 1 ≤ 10 + 3 * d + 1 by omega) cs_nil (by decide) [.int s1] (RC.two hb2 (by decide) (by decide) rfl rfl q1135 q1136) rfl rfl (by have hx := sX9_must hγ s0 s1 σ q1 hq1; rw [hw3] at hx; exact hx) ?_
    refine J_iload_n (i := 1) 1 82 dX9_part_81 rfl rfl rfl ?_
    refine J_ic 83 dX9_part_82 rfl (-1 : Int32) kic_m1 ?_
    refine J_icmp_ne 105 86 dX9_part_83 (by decide) rfl (fun c5 => ?_) (fun c5 => ?_)
    · rw [if_neg c5] at h
      refine J_aload_n (i := 0) 0 106 dX9_part_105 rfl rfl rfl ?_
      obtain ⟨b7, hb7, h⟩ := some_of_bind h
      obtain ⟨q6, hq6, h⟩ := some_of_bind h
      rcases bT_of h with ⟨a9, ha9, ht, hq⟩ | ⟨w8, hw8, h⟩
      · exact J_cWT dX9_part_106 ykX9_leaf (Or.inl q1239) q1241 (show (5) + 1 ≤ 10 + 3 * d + 1 by omega) cs_nil (by decide) [] (RC.two hb7 (by decide) (by decide) rfl rfl qp10 qp19) rfl rfl (by have hx := sX9_leaf hγ l0  q1.2 q6 hq6; rw [ha9] at hx; exact hx) (JT_out rfl ht (thrR hq))
      · refine J_cWv 109 dX9_part_106 rfl ykX9_leaf (Or.inl q1239) q1241 (show (5) + 1 ≤ 10 + 3 * d + 1 by omega) cs_nil (by decide) [] (RC.two hb7 (by decide) (by decide) rfl rfl qp10 qp19) rfl rfl (by have hx := sX9_leaf hγ l0  q1.2 q6 hq6; rw [hw8] at hx; exact hx) ?_
        refine J_aload_n (i := 0) 0 110 dX9_part_109 rfl rfl rfl ?_
        obtain ⟨b11, hb11, h⟩ := some_of_bind h
        obtain ⟨q10, hq10, h⟩ := some_of_bind h
        refine J_cWv 113 dX9_part_110 rfl ykX9_next (Or.inl q1120) q1121 (show (1) + 1 ≤ 10 + 3 * d + 1 by omega) cs_nil (by decide) [] (RC.two hb11 (by decide) (by decide) rfl rfl q1123 q1124) rfl rfl (sX9_next hγ l0  q6.2 q10 hq10) ?_
        refine J_aload_n (i := 0) 0 114 dX9_part_113 rfl rfl rfl ?_
        refine J_iload_n (i := 1) 1 115 dX9_part_114 rfl rfl rfl ?_
        obtain ⟨q12, hq12, h⟩ := some_of_bind h
        rcases bT_of h with ⟨a14, ha14, ht, hq⟩ | ⟨w13, hw13, h⟩
        · exact J_cUT (na := 1) dX9_part_115 q1262 q1264 qd1 ⟨by decide, by decide, by decide +kernel⟩ (show (6) + 1 ≤ 10 + 3 * d + 1 by omega) cs_nil (by decide) [.int l1] rfl rfl (by have hx := svBehind hγ l0 l1 q10 q12 hq12; rw [ha14] at hx; exact hx) (JT_out rfl ht (thrR hq))
        · refine J_cUr (na := 1) 118 dX9_part_115 rfl q1262 q1264 qd1 ⟨by decide, by decide, by decide +kernel⟩ (show (6) + 1 ≤ 10 + 3 * d + 1 by omega) cs_nil (by decide) [.int l1] rfl rfl (by have hx := svBehind hγ l0 l1 q10 q12 hq12; rw [hw13] at hx; exact hx) ?_
          exact J_aret rfl (Or.inl ⟨_, rfl⟩) dX9_part_118 (retRX h)
    · rw [if_pos c5] at h
      refine J_aload_n (i := 0) 0 87 dX9_part_86 rfl rfl rfl ?_
      obtain ⟨b16, hb16, h⟩ := some_of_bind h
      obtain ⟨q15, hq15, h⟩ := some_of_bind h
      rcases bT_of h with ⟨a18, ha18, ht, hq⟩ | ⟨w17, hw17, h⟩
      · exact J_cWT dX9_part_87 ykX9_leaf (Or.inl q1239) q1241 (show (5) + 1 ≤ 10 + 3 * d + 1 by omega) cs_nil (by decide) [] (RC.two hb16 (by decide) (by decide) rfl rfl qp10 qp19) rfl rfl (by have hx := sX9_leaf hγ l0  q1.2 q15 hq15; rw [ha18] at hx; exact hx) (JT_out rfl ht (thrR hq))
      · refine J_cWv 90 dX9_part_87 rfl ykX9_leaf (Or.inl q1239) q1241 (show (5) + 1 ≤ 10 + 3 * d + 1 by omega) cs_nil (by decide) [] (RC.two hb16 (by decide) (by decide) rfl rfl qp10 qp19) rfl rfl (by have hx := sX9_leaf hγ l0  q1.2 q15 hq15; rw [hw17] at hx; exact hx) ?_
        refine J_new (c9 := 13) (nsl := 1) rfl (by decide) (by decide +kernel) q1243 q1244 q160 93 dX9_part_90 rfl ?_
        refine J_dupr 94 dX9_part_93 rfl ?_
        refine J_aload_n (i := 0) 0 95 dX9_part_94 rfl rfl rfl ?_
        refine J_sipush 98 dX9_part_95 rfl (1000 : Int32) ksp_1000 ?_
        obtain ⟨b20, hb20, h⟩ := some_of_bind h
        obtain ⟨q19, hq19, h⟩ := some_of_bind h
        rcases bT_of h with ⟨a22, ha22, ht, hq⟩ | ⟨w21, hw21, h⟩
        · exact J_cWT dX9_part_98 ykX9_number (Or.inl q1245) q1246 (show (5) + 1 ≤ 10 + 3 * d + 1 by omega) (cs_rf (cs_rf cs_nil)) (by decide) [.int (1000 : Int32)] (RC.two hb20 (by decide) (by decide) rfl rfl q1248 q1249) rfl rfl (by have hx := sX9_number hγ l0 (1000 : Int32) (wN q15.2 13 0 1) q19 hq19; rw [ha22] at hx; exact hx) (JT_out rfl ht (thrR hq))
        · refine J_cWi 101 dX9_part_98 rfl ykX9_number (Or.inl q1245) q1246 (show (5) + 1 ≤ 10 + 3 * d + 1 by omega) (cs_rf (cs_rf cs_nil)) (by decide) [.int (1000 : Int32)] (RC.two hb20 (by decide) (by decide) rfl rfl q1248 q1249) rfl rfl (by have hx := sX9_number hγ l0 (1000 : Int32) (wN q15.2 13 0 1) q19 hq19; rw [hw21] at hx; exact hx) ?_
          obtain ⟨b24, hb24, h⟩ := some_of_bind h
          obtain ⟨q23, hq23, h⟩ := some_of_bind h
          refine J_cI 104 dX9_part_101 rfl ykX13_init rfl (Or.inl q1251) q1252 rfl (show (2) + 1 ≤ 10 + 3 * d + 1 by omega) (cs_rf cs_nil) (by decide) [.int w21] hb24 rfl rfl (sX13_init hγ (some (hsz q15.2)) w21 q19.2 q23 hq23) ?_
          exact J_aret rfl (Or.inl ⟨_, rfl⟩) dX9_part_104 (retRX h)
def X9_part_c77 (rec : Option Nat → Hp → Option ((Nat ⊕ Option Nat) × Hp))  (l0 : Option Nat) (l1 : Int32) (s0 : Option Nat) (σ : Hp) : Option ((Nat ⊕ Option Nat) × Hp) :=
  X9_part_c78 rec  l0 l1 s0 (0 : Int32) σ
set_option maxHeartbeats 4000000 in
theorem jX9_part_c77 {γ : GP} {σ0 : Hp} {q : ((Nat ⊕ Option Nat) × Hp)} (hγ : GOK γ) {d : Nat} (rec : Option Nat → Hp → Option ((Nat ⊕ Option Nat) × Hp)) (hrec : ∀ (x0 : Option Nat) (σ : Hp) (q : ((Nat ⊕ Option Nat) × Hp)), rec x0 σ = some q → Rn γ (mX9_sum d) yX9_sum [va_rf x0] (σ, fxR q.1, q.2)) (l0 : Option Nat) (l1 : Int32)  (s0 : Option Nat) (σ : Hp) (h : X9_part_c77 rec l0 l1 s0 σ = some q) : J γ (mX9_part d) (σ0, fxR q.1, q.2) σ 77 [(0, 1, va_rf l0), (1, 1, .int l1)] [va_rf s0] := by
  unfold X9_part_c77 at h
  refine J_ic 78 dX9_part_77 rfl (0 : Int32) kic_0 ?_
  exact jX9_part_c78 hγ rec hrec l0 l1 s0 (0 : Int32) σ h
def X9_part (rec : Option Nat → Hp → Option ((Nat ⊕ Option Nat) × Hp)) (l0 : Option Nat) (σ : Hp) : Option ((Nat ⊕ Option Nat) × Hp) :=
  (cT2 σ l0 10 23).bind fun b2 =>
  (X9_isWord l0 (hst σ 116) σ).bind fun q1 =>
  if q1.1 = 0 then
    (gR q1.2 l0 [10, 23] 6).bind fun v4 =>
    (cT2 q1.2 l0 10 23).bind fun b6 =>
    (X9_which l0 v4 q1.2).bind fun q5 =>
    if q5.1 = (-1 : Int32) then
      (gI q5.2 l0 [10, 23] 0).bind fun v8 =>
      (gR q5.2 l0 [10, 23] 7).bind fun v9 =>
      (gI q5.2 v9 [0] 15).bind fun v10 =>
      if v10 ≤ v8 then
        X9_part_c77 rec  l0 q5.1 l0 q5.2
      else
        (gR q5.2 l0 [10, 23] 7).bind fun v12 =>
        (gR q5.2 v12 [0] 14).bind fun v13 =>
        (gI q5.2 l0 [10, 23] 0).bind fun v14 =>
        (aI 2 q5.2 v13 v14).bind fun v15 =>
        (X0_isDigit v15 q5.2).bind fun q16 =>
        if q16.1 = 0 then
          X9_part_c77 rec  l0 q5.1 l0 q16.2
        else
          X9_part_c78 rec  l0 q5.1 l0 (1 : Int32) q16.2
    else
      X9_part_c78 rec  l0 q5.1 l0 (1 : Int32) q5.2
  else
    (cT2 q1.2 l0 10 23).bind fun b19 =>
    (X9_open l0  q1.2).bind fun q18 =>
    bT q18 fun w20 =>
    (cT2 q18.2 l0 10 23).bind fun b23 =>
    (rec l0  q18.2).bind fun q22 =>
    bT q22 fun w24 =>
    (cT2 q22.2 l0 10 23).bind fun b27 =>
    (X9_close l0 (hst q22.2 117) q22.2).bind fun q26 =>
    bT q26 fun w28 =>
    some (Sum.inr w24, q26.2)
set_option maxHeartbeats 4000000 in
theorem sX9_part {γ : GP} (hγ : GOK γ) {d : Nat} (rec : Option Nat → Hp → Option ((Nat ⊕ Option Nat) × Hp)) (hrec : ∀ (x0 : Option Nat) (σ : Hp) (q : ((Nat ⊕ Option Nat) × Hp)), rec x0 σ = some q → Rn γ (mX9_sum d) yX9_sum [va_rf x0] (σ, fxR q.1, q.2)) (l0 : Option Nat) (σ : Hp) (q : ((Nat ⊕ Option Nat) × Hp)) (h : X9_part rec l0 σ = some q) : Rn γ (mX9_part d) yX9_part [va_rf l0] (σ, fxR q.1, q.2) := by
  refine J_mX hγ (ykX9_part d) rfl [(1, va_rf l0)] (cats_r cats_nil) (Nat.le_of_ble_eq_true rfl) ?_
  show J γ (mX9_part d) _ σ 0 [(0, 1, va_rf l0)] []
  unfold X9_part at h
  refine J_aload_n (i := 0) 0 1 dX9_part_0 rfl rfl rfl ?_
  refine J_ldcS (k := 116) (tx := "[") (show (116, "MissCurves$Reader", 173, "[") ∈ strl by decide) 3 dX9_part_1 rfl ?_
  obtain ⟨b2, hb2, h⟩ := some_of_bind h
  obtain ⟨q1, hq1, h⟩ := some_of_bind h
  refine J_cWi 6 dX9_part_3 rfl ykX9_isWord (Or.inl q1174) q1175 (show (6) + 1 ≤ 10 + 3 * d + 1 by omega) cs_nil (by decide) [va_rf (hst σ 116)] (RC.two hb2 (by decide) (by decide) rfl rfl q1177 q1178) rfl rfl (sX9_isWord hγ l0 (hst σ 116) σ q1 hq1) ?_
  refine J_if_eq 26 9 dX9_part_6 (by decide) rfl (fun c3 => ?_) (fun c3 => ?_)
  · rw [if_pos c3] at h
    refine J_aload_n (i := 0) 0 27 dX9_part_26 rfl rfl rfl ?_
    refine J_aload_n (i := 0) 0 28 dX9_part_27 rfl rfl rfl ?_
    obtain ⟨v4, hv4, h⟩ := some_of_bind h
    refine J_gR 31 dX9_part_28 rfl fk_r_346 hv4 ?_
    obtain ⟨b6, hb6, h⟩ := some_of_bind h
    obtain ⟨q5, hq5, h⟩ := some_of_bind h
    refine J_cWi 34 dX9_part_31 rfl ykX9_which (Or.inl q1238) q1172 (show (7) + 1 ≤ 10 + 3 * d + 1 by omega) cs_nil (by decide) [va_rf v4] (RC.two hb6 (by decide) (by decide) rfl rfl q2990 q2991) rfl rfl (sX9_which hγ l0 v4 q1.2 q5 hq5) ?_
    refine J_istore_n (i := 1) 35 [(1, 1, .int q5.1), (0, 1, va_rf l0)] dX9_part_34 rfl rfl (Nat.le_of_ble_eq_true rfl) rfl ?_
    refine J_aload_n (i := 0) 1 36 dX9_part_35 rfl rfl rfl ?_
    refine J_iload_n (i := 1) 0 37 dX9_part_36 rfl rfl rfl ?_
    refine J_ic 38 dX9_part_37 rfl (-1 : Int32) kic_m1 ?_
    refine J_icmp_ne 73 41 dX9_part_38 (by decide) rfl (fun c7 => ?_) (fun c7 => ?_)
    · rw [if_neg c7] at h
      refine J_ic 74 dX9_part_73 rfl (1 : Int32) kic_1 ?_
      refine J_goto 78 dX9_part_74 (by decide) ?_
      refine J.pick [1, 0] rfl ?_
      exact jX9_part_c78 hγ rec hrec l0 q5.1 l0 (1 : Int32) q5.2 h
    · rw [if_pos c7] at h
      refine J_aload_n (i := 0) 1 42 dX9_part_41 rfl rfl rfl ?_
      obtain ⟨v8, hv8, h⟩ := some_of_bind h
      refine J_gI 45 dX9_part_42 rfl fk_r_318 hv8 ?_
      refine J_aload_n (i := 0) 1 46 dX9_part_45 rfl rfl rfl ?_
      obtain ⟨v9, hv9, h⟩ := some_of_bind h
      refine J_gR 49 dX9_part_46 rfl fk_r_316 hv9 ?_
      obtain ⟨v10, hv10, h⟩ := some_of_bind h
      refine J_gI 52 dX9_part_49 rfl fk_r_325 hv10 ?_
      refine J_icmp_ge 77 55 dX9_part_52 (by decide) rfl (fun c11 => ?_) (fun c11 => ?_)
      · rw [if_pos c11] at h
        refine J.pick [1, 0] rfl ?_
        exact jX9_part_c77 hγ rec hrec l0 q5.1 l0 q5.2 h
      · rw [if_neg c11] at h
        refine J_aload_n (i := 0) 1 56 dX9_part_55 rfl rfl rfl ?_
        obtain ⟨v12, hv12, h⟩ := some_of_bind h
        refine J_gR 59 dX9_part_56 rfl fk_r_316 hv12 ?_
        obtain ⟨v13, hv13, h⟩ := some_of_bind h
        refine J_gR 62 dX9_part_59 rfl fk_r_317 hv13 ?_
        refine J_aload_n (i := 0) 1 63 dX9_part_62 rfl rfl rfl ?_
        obtain ⟨v14, hv14, h⟩ := some_of_bind h
        refine J_gI 66 dX9_part_63 rfl fk_r_318 hv14 ?_
        obtain ⟨v15, hv15, h⟩ := some_of_bind h
        refine J_bald 67 dX9_part_66 rfl hv15 ?_
        obtain ⟨q16, hq16, h⟩ := some_of_bind h
        refine J_cSi 70 dX9_part_67 rfl ykX0_isDigit (Or.inr ⟨_, q1129⟩) q1130 (show (0) + 1 ≤ 10 + 3 * d + 1 by omega) (cs_rf cs_nil) (by decide) [.int v15] rfl rfl (sX0_isDigit hγ v15 q5.2 q16 hq16) ?_
        refine J_if_eq 77 73 dX9_part_70 (by decide) rfl (fun c17 => ?_) (fun c17 => ?_)
        · rw [if_pos c17] at h
          refine J.pick [1, 0] rfl ?_
          exact jX9_part_c77 hγ rec hrec l0 q5.1 l0 q16.2 h
        · rw [if_neg c17] at h
          refine J_ic 74 dX9_part_73 rfl (1 : Int32) kic_1 ?_
          refine J_goto 78 dX9_part_74 (by decide) ?_
          refine J.pick [1, 0] rfl ?_
          exact jX9_part_c78 hγ rec hrec l0 q5.1 l0 (1 : Int32) q16.2 h
  · rw [if_neg c3] at h
    refine J_aload_n (i := 0) 0 10 dX9_part_9 rfl rfl rfl ?_
    obtain ⟨b19, hb19, h⟩ := some_of_bind h
    obtain ⟨q18, hq18, h⟩ := some_of_bind h
    rcases bT_of h with ⟨a21, ha21, ht, hq⟩ | ⟨w20, hw20, h⟩
    · exact J_cWT dX9_part_10 ykX9_open (Or.inl q1222) q1224 (show (5) + 1 ≤ 10 + 3 * d + 1 by omega) cs_nil (by decide) [] (RC.two hb19 (by decide) (by decide) rfl rfl qp8 qp17) rfl rfl (by have hx := sX9_open hγ l0  q1.2 q18 hq18; rw [ha21] at hx; exact hx) (JT_out rfl ht (thrR hq))
    · refine J_cWv 13 dX9_part_10 rfl ykX9_open (Or.inl q1222) q1224 (show (5) + 1 ≤ 10 + 3 * d + 1 by omega) cs_nil (by decide) [] (RC.two hb19 (by decide) (by decide) rfl rfl qp8 qp17) rfl rfl (by have hx := sX9_open hγ l0  q1.2 q18 hq18; rw [hw20] at hx; exact hx) ?_
      refine J_aload_n (i := 0) 0 14 dX9_part_13 rfl rfl rfl ?_
      obtain ⟨b23, hb23, h⟩ := some_of_bind h
      obtain ⟨q22, hq22, h⟩ := some_of_bind h
      rcases bT_of h with ⟨a25, ha25, ht, hq⟩ | ⟨w24, hw24, h⟩
      · exact J_cWT dX9_part_14 (ykX9_sum d) (Or.inl q1226) q1211 (show (10 + 3 * d) + 1 ≤ 10 + 3 * d + 1 by omega) cs_nil (by decide) [] (RC.two hb23 (by decide) (by decide) rfl rfl q2986 q2987) rfl rfl (by have hx := hrec l0  q18.2 q22 hq22; rw [ha25] at hx; exact hx) (JT_out rfl ht (thrR hq))
      · refine J_cWr 17 dX9_part_14 rfl (ykX9_sum d) (Or.inl q1226) q1211 (show (10 + 3 * d) + 1 ≤ 10 + 3 * d + 1 by omega) cs_nil (by decide) [] (RC.two hb23 (by decide) (by decide) rfl rfl q2986 q2987) rfl rfl (by have hx := hrec l0  q18.2 q22 hq22; rw [hw24] at hx; exact hx) ?_
        refine J_astore_n (i := 1) 18 [(1, 1, va_rf w24), (0, 1, va_rf l0)] dX9_part_17 rfl rfl (Nat.le_of_ble_eq_true rfl) rfl ?_
        refine J_aload_n (i := 0) 1 19 dX9_part_18 rfl rfl rfl ?_
        refine J_ldcS (k := 117) (tx := "]") (show (117, "MissCurves$Reader", 175, "]") ∈ strl by decide) 21 dX9_part_19 rfl ?_
        obtain ⟨b27, hb27, h⟩ := some_of_bind h
        obtain ⟨q26, hq26, h⟩ := some_of_bind h
        rcases bT_of h with ⟨a29, ha29, ht, hq⟩ | ⟨w28, hw28, h⟩
        · exact J_cWT dX9_part_21 ykX9_close (Or.inl q1228) q1230 (show (8) + 1 ≤ 10 + 3 * d + 1 by omega) cs_nil (by decide) [va_rf (hst q22.2 117)] (RC.two hb27 (by decide) (by decide) rfl rfl qp9 qp18) rfl rfl (by have hx := sX9_close hγ l0 (hst q22.2 117) q22.2 q26 hq26; rw [ha29] at hx; exact hx) (JT_out rfl ht (thrR hq))
        · refine J_cWv 24 dX9_part_21 rfl ykX9_close (Or.inl q1228) q1230 (show (8) + 1 ≤ 10 + 3 * d + 1 by omega) cs_nil (by decide) [va_rf (hst q22.2 117)] (RC.two hb27 (by decide) (by decide) rfl rfl qp9 qp18) rfl rfl (by have hx := sX9_close hγ l0 (hst q22.2 117) q22.2 q26 hq26; rw [hw28] at hx; exact hx) ?_
          refine J_aload_n (i := 1) 0 25 dX9_part_24 rfl rfl rfl ?_
          exact J_aret rfl (Or.inl ⟨_, rfl⟩) dX9_part_25 (retRX h)
abbrev mX9_term (d : Nat) : MP := (cX9_term, "MissCurves$Reader", 3, (Option.some (FieldType.object "MissCurves$Sum")), 10 + 3 * d + 2, "term", [])
theorem ykX9_term (d : Nat) : YK yX9_term (mX9_term d) 0 := ⟨q1216, q156, ⟨by decide, by decide⟩, by decide +kernel, Nat.le_of_ble_eq_true rfl, by decide, rfl, rfl⟩
def X9_term_c32 (rec : Option Nat → Hp → Option ((Nat ⊕ Option Nat) × Hp)) (k5 : Option Nat → Hp → Option ((Nat ⊕ Option Nat) × Hp)) (l0 : Option Nat) (l1 : Option Nat)  (σ : Hp) : Option ((Nat ⊕ Option Nat) × Hp) :=
  (gR σ l0 [10, 23] 7).bind fun v1 =>
  (gR σ v1 [0] 14).bind fun v2 =>
  (gI σ l0 [10, 23] 0).bind fun v3 =>
  (aI 2 σ v2 v3).bind fun v4 =>
  (cT2 σ l0 10 23).bind fun b6 =>
  (X9_next l0  σ).bind fun q5 =>
  (cT2 (wN q5 16 0 3) l0 10 23).bind fun b8 =>
  (X9_part rec l0  (wN q5 16 0 3)).bind fun q7 =>
  bT q7 fun w9 =>
  (some (hsz q5)).bind fun b12 =>
  (X16_init (some (hsz q5)) l1 v4 w9 q7.2).bind fun q11 =>
  k5 (some (hsz q5)) q11
set_option maxHeartbeats 4000000 in
theorem jX9_term_c32 {γ : GP} {σ0 : Hp} {q : ((Nat ⊕ Option Nat) × Hp)} (hγ : GOK γ) {d : Nat} (rec : Option Nat → Hp → Option ((Nat ⊕ Option Nat) × Hp)) (hrec : ∀ (x0 : Option Nat) (σ : Hp) (q : ((Nat ⊕ Option Nat) × Hp)), rec x0 σ = some q → Rn γ (mX9_sum d) yX9_sum [va_rf x0] (σ, fxR q.1, q.2)) (l0 : Option Nat) (l1 : Option Nat) {k5 : Option Nat → Hp → Option ((Nat ⊕ Option Nat) × Hp)} (hk5 : ∀ (l1 : Option Nat) (σ : Hp), k5 l1 σ = some q → J γ (mX9_term d) (σ0, fxR q.1, q.2) σ 5 [(0, 1, va_rf l0), (1, 1, va_rf l1)] [])  (σ : Hp) (h : X9_term_c32 rec k5 l0 l1 σ = some q) : J γ (mX9_term d) (σ0, fxR q.1, q.2) σ 32 [(0, 1, va_rf l0), (1, 1, va_rf l1)] [] := by
  unfold X9_term_c32 at h
  refine J_aload_n (i := 0) 0 33 dX9_term_32 rfl rfl rfl ?_
  obtain ⟨v1, hv1, h⟩ := some_of_bind h
  refine J_gR 36 dX9_term_33 rfl fk_r_316 hv1 ?_
  obtain ⟨v2, hv2, h⟩ := some_of_bind h
  refine J_gR 39 dX9_term_36 rfl fk_r_317 hv2 ?_
  refine J_aload_n (i := 0) 0 40 dX9_term_39 rfl rfl rfl ?_
  obtain ⟨v3, hv3, h⟩ := some_of_bind h
  refine J_gI 43 dX9_term_40 rfl fk_r_318 hv3 ?_
  obtain ⟨v4, hv4, h⟩ := some_of_bind h
  refine J_bald 44 dX9_term_43 rfl hv4 ?_
  refine J_istore_n (i := 2) 45 [(2, 1, .int v4), (0, 1, va_rf l0), (1, 1, va_rf l1)] dX9_term_44 rfl rfl (Nat.le_of_ble_eq_true rfl) rfl ?_
  refine J_aload_n (i := 0) 1 46 dX9_term_45 rfl rfl rfl ?_
  obtain ⟨b6, hb6, h⟩ := some_of_bind h
  obtain ⟨q5, hq5, h⟩ := some_of_bind h
  refine J_cWv 49 dX9_term_46 rfl ykX9_next (Or.inl q1120) q1121 (show (1) + 1 ≤ 10 + 3 * d + 2 by omega) cs_nil (by decide) [] (RC.two hb6 (by decide) (by decide) rfl rfl q1123 q1124) rfl rfl (sX9_next hγ l0  σ q5 hq5) ?_
  refine J_new (c9 := 16) (nsl := 3) rfl (by decide) (by decide +kernel) q1305 q1306 q163 52 dX9_term_49 rfl ?_
  refine J_dupr 53 dX9_term_52 rfl ?_
  refine J_aload_n (i := 1) 2 54 dX9_term_53 rfl rfl rfl ?_
  refine J_iload_n (i := 2) 0 55 dX9_term_54 rfl rfl rfl ?_
  refine J_aload_n (i := 0) 1 56 dX9_term_55 rfl rfl rfl ?_
  obtain ⟨b8, hb8, h⟩ := some_of_bind h
  obtain ⟨q7, hq7, h⟩ := some_of_bind h
  rcases bT_of h with ⟨a10, ha10, ht, hq⟩ | ⟨w9, hw9, h⟩
  · exact J_cWT dX9_term_56 (ykX9_part d) (Or.inl q1217) q1219 (show (10 + 3 * d + 1) + 1 ≤ 10 + 3 * d + 2 by omega) (cs_int (cs_rf (cs_rf (cs_rf cs_nil)))) (by decide) [] (RC.two hb8 (by decide) (by decide) rfl rfl qp7 qp16) rfl rfl (by have hx := sX9_part hγ rec hrec l0  (wN q5 16 0 3) q7 hq7; rw [ha10] at hx; exact hx) (JT_out rfl ht (thrR hq))
  · refine J_cWr 59 dX9_term_56 rfl (ykX9_part d) (Or.inl q1217) q1219 (show (10 + 3 * d + 1) + 1 ≤ 10 + 3 * d + 2 by omega) (cs_int (cs_rf (cs_rf (cs_rf cs_nil)))) (by decide) [] (RC.two hb8 (by decide) (by decide) rfl rfl qp7 qp16) rfl rfl (by have hx := sX9_part hγ rec hrec l0  (wN q5 16 0 3) q7 hq7; rw [hw9] at hx; exact hx) ?_
    obtain ⟨b12, hb12, h⟩ := some_of_bind h
    obtain ⟨q11, hq11, h⟩ := some_of_bind h
    refine J_cI 62 dX9_term_59 rfl ykX16_init rfl (Or.inl q1307) q1308 rfl (show (2) + 1 ≤ 10 + 3 * d + 2 by omega) (cs_rf cs_nil) (by decide) [va_rf l1, .int v4, va_rf w9] hb12 rfl rfl (sX16_init hγ (some (hsz q5)) l1 v4 w9 q7.2 q11 hq11) ?_
    refine J_astore_n (i := 1) 63 [(1, 1, va_rf (some (hsz q5))), (2, 1, .int v4), (0, 1, va_rf l0)] dX9_term_62 rfl rfl (Nat.le_of_ble_eq_true rfl) rfl ?_
    refine J_goto 5 dX9_term_63 (by decide) ?_
    refine J.pick [2, 0] rfl ?_
    exact hk5 (some (hsz q5)) q11 h
def X9_term_c5 (rec : Option Nat → Hp → Option ((Nat ⊕ Option Nat) × Hp)) (l0 : Option Nat)  : Nat → Option Nat → Hp → Option ((Nat ⊕ Option Nat) × Hp)
  | 0, _, _ => none
  | n + 1, l1, σ =>
    (cT2 σ l0 10 23).bind fun b2 =>
    (X9_isWord l0 (hst σ 104) σ).bind fun q1 =>
    if q1.1 = 0 then
      (cT2 q1.2 l0 10 23).bind fun b5 =>
      (X9_isWord l0 (hst q1.2 109) q1.2).bind fun q4 =>
      if q4.1 = 0 then
        (cT2 q4.2 l0 10 23).bind fun b8 =>
        (X9_isWord l0 (hst q4.2 101) q4.2).bind fun q7 =>
        if q7.1 = 0 then
          some (Sum.inr l1, q7.2)
        else
          X9_term_c32 rec (X9_term_c5 rec l0 n) l0 l1  q7.2
      else
        X9_term_c32 rec (X9_term_c5 rec l0 n) l0 l1  q4.2
    else
      X9_term_c32 rec (X9_term_c5 rec l0 n) l0 l1  q1.2
set_option maxHeartbeats 4000000 in
theorem jX9_term_c5 {γ : GP} {σ0 : Hp} {q : ((Nat ⊕ Option Nat) × Hp)} (hγ : GOK γ) {d : Nat} (rec : Option Nat → Hp → Option ((Nat ⊕ Option Nat) × Hp)) (hrec : ∀ (x0 : Option Nat) (σ : Hp) (q : ((Nat ⊕ Option Nat) × Hp)), rec x0 σ = some q → Rn γ (mX9_sum d) yX9_sum [va_rf x0] (σ, fxR q.1, q.2)) (l0 : Option Nat)  : ∀ (n : Nat) (l1 : Option Nat) (σ : Hp), X9_term_c5 rec l0 n l1 σ = some q → J γ (mX9_term d) (σ0, fxR q.1, q.2) σ 5 [(0, 1, va_rf l0), (1, 1, va_rf l1)] [] := by
  intro n
  induction n with
  | zero => intro l1 σ h; exact nomatch (show none = some q from h)
  | succ n ih =>
    intro l1 σ h
    rw [X9_term_c5] at h
    refine J_aload_n (i := 0) 0 6 dX9_term_5 rfl rfl rfl ?_
    refine J_ldcS (k := 104) (tx := "*") (show (104, "MissCurves$Reader", 167, "*") ∈ strl by decide) 8 dX9_term_6 rfl ?_
    obtain ⟨b2, hb2, h⟩ := some_of_bind h
    obtain ⟨q1, hq1, h⟩ := some_of_bind h
    refine J_cWi 11 dX9_term_8 rfl ykX9_isWord (Or.inl q1174) q1175 (show (6) + 1 ≤ 10 + 3 * d + 2 by omega) cs_nil (by decide) [va_rf (hst σ 104)] (RC.two hb2 (by decide) (by decide) rfl rfl q1177 q1178) rfl rfl (sX9_isWord hγ l0 (hst σ 104) σ q1 hq1) ?_
    refine J_if_ne 32 14 dX9_term_11 (by decide) rfl (fun c3 => ?_) (fun c3 => ?_)
    · rw [if_neg c3] at h
      exact jX9_term_c32 hγ rec hrec l0 l1 ih  q1.2 h
    · rw [if_pos c3] at h
      refine J_aload_n (i := 0) 0 15 dX9_term_14 rfl rfl rfl ?_
      refine J_ldcS (k := 109) (tx := "/") (show (109, "MissCurves$Reader", 169, "/") ∈ strl by decide) 17 dX9_term_15 rfl ?_
      obtain ⟨b5, hb5, h⟩ := some_of_bind h
      obtain ⟨q4, hq4, h⟩ := some_of_bind h
      refine J_cWi 20 dX9_term_17 rfl ykX9_isWord (Or.inl q1174) q1175 (show (6) + 1 ≤ 10 + 3 * d + 2 by omega) cs_nil (by decide) [va_rf (hst q1.2 109)] (RC.two hb5 (by decide) (by decide) rfl rfl q1177 q1178) rfl rfl (sX9_isWord hγ l0 (hst q1.2 109) q1.2 q4 hq4) ?_
      refine J_if_ne 32 23 dX9_term_20 (by decide) rfl (fun c6 => ?_) (fun c6 => ?_)
      · rw [if_neg c6] at h
        exact jX9_term_c32 hγ rec hrec l0 l1 ih  q4.2 h
      · rw [if_pos c6] at h
        refine J_aload_n (i := 0) 0 24 dX9_term_23 rfl rfl rfl ?_
        refine J_ldcS (k := 101) (tx := "%") (show (101, "MissCurves$Reader", 171, "%") ∈ strl by decide) 26 dX9_term_24 rfl ?_
        obtain ⟨b8, hb8, h⟩ := some_of_bind h
        obtain ⟨q7, hq7, h⟩ := some_of_bind h
        refine J_cWi 29 dX9_term_26 rfl ykX9_isWord (Or.inl q1174) q1175 (show (6) + 1 ≤ 10 + 3 * d + 2 by omega) cs_nil (by decide) [va_rf (hst q4.2 101)] (RC.two hb8 (by decide) (by decide) rfl rfl q1177 q1178) rfl rfl (sX9_isWord hγ l0 (hst q4.2 101) q4.2 q7 hq7) ?_
        refine J_if_eq 66 32 dX9_term_29 (by decide) rfl (fun c9 => ?_) (fun c9 => ?_)
        · rw [if_pos c9] at h
          refine J_aload_n (i := 1) 1 67 dX9_term_66 rfl rfl rfl ?_
          exact J_aret rfl (Or.inl ⟨_, rfl⟩) dX9_term_67 (retRX h)
        · rw [if_neg c9] at h
          exact jX9_term_c32 hγ rec hrec l0 l1 ih  q7.2 h
def X9_term (rec : Option Nat → Hp → Option ((Nat ⊕ Option Nat) × Hp)) (l0 : Option Nat) (σ : Hp) : Option ((Nat ⊕ Option Nat) × Hp) :=
  (cT2 σ l0 10 23).bind fun b2 =>
  (X9_part rec l0  σ).bind fun q1 =>
  bT q1 fun w3 =>
  X9_term_c5 rec l0  FUEL w3 q1.2
set_option maxHeartbeats 4000000 in
theorem sX9_term {γ : GP} (hγ : GOK γ) {d : Nat} (rec : Option Nat → Hp → Option ((Nat ⊕ Option Nat) × Hp)) (hrec : ∀ (x0 : Option Nat) (σ : Hp) (q : ((Nat ⊕ Option Nat) × Hp)), rec x0 σ = some q → Rn γ (mX9_sum d) yX9_sum [va_rf x0] (σ, fxR q.1, q.2)) (l0 : Option Nat) (σ : Hp) (q : ((Nat ⊕ Option Nat) × Hp)) (h : X9_term rec l0 σ = some q) : Rn γ (mX9_term d) yX9_term [va_rf l0] (σ, fxR q.1, q.2) := by
  refine J_mX hγ (ykX9_term d) rfl [(1, va_rf l0)] (cats_r cats_nil) (Nat.le_of_ble_eq_true rfl) ?_
  show J γ (mX9_term d) _ σ 0 [(0, 1, va_rf l0)] []
  unfold X9_term at h
  refine J_aload_n (i := 0) 0 1 dX9_term_0 rfl rfl rfl ?_
  obtain ⟨b2, hb2, h⟩ := some_of_bind h
  obtain ⟨q1, hq1, h⟩ := some_of_bind h
  rcases bT_of h with ⟨a4, ha4, ht, hq⟩ | ⟨w3, hw3, h⟩
  · exact J_cWT dX9_term_1 (ykX9_part d) (Or.inl q1217) q1219 (show (10 + 3 * d + 1) + 1 ≤ 10 + 3 * d + 2 by omega) cs_nil (by decide) [] (RC.two hb2 (by decide) (by decide) rfl rfl qp7 qp16) rfl rfl (by have hx := sX9_part hγ rec hrec l0  σ q1 hq1; rw [ha4] at hx; exact hx) (JT_out rfl ht (thrR hq))
  · refine J_cWr 4 dX9_term_1 rfl (ykX9_part d) (Or.inl q1217) q1219 (show (10 + 3 * d + 1) + 1 ≤ 10 + 3 * d + 2 by omega) cs_nil (by decide) [] (RC.two hb2 (by decide) (by decide) rfl rfl qp7 qp16) rfl rfl (by have hx := sX9_part hγ rec hrec l0  σ q1 hq1; rw [hw3] at hx; exact hx) ?_
    refine J_astore_n (i := 1) 5 [(1, 1, va_rf w3), (0, 1, va_rf l0)] dX9_term_4 rfl rfl (Nat.le_of_ble_eq_true rfl) rfl ?_
    refine J.pick [1, 0] rfl ?_
    refine jX9_term_c5 hγ rec hrec l0  FUEL w3 q1.2 h
def X9_sum_c23 (rec : Option Nat → Hp → Option ((Nat ⊕ Option Nat) × Hp)) (k5 : Option Nat → Hp → Option ((Nat ⊕ Option Nat) × Hp)) (l0 : Option Nat) (l1 : Option Nat)  (σ : Hp) : Option ((Nat ⊕ Option Nat) × Hp) :=
  (gR σ l0 [10, 23] 7).bind fun v1 =>
  (gR σ v1 [0] 14).bind fun v2 =>
  (gI σ l0 [10, 23] 0).bind fun v3 =>
  (aI 2 σ v2 v3).bind fun v4 =>
  (cT2 σ l0 10 23).bind fun b6 =>
  (X9_next l0  σ).bind fun q5 =>
  (cT2 (wN q5 16 0 3) l0 10 23).bind fun b8 =>
  (X9_term rec l0  (wN q5 16 0 3)).bind fun q7 =>
  bT q7 fun w9 =>
  (some (hsz q5)).bind fun b12 =>
  (X16_init (some (hsz q5)) l1 v4 w9 q7.2).bind fun q11 =>
  k5 (some (hsz q5)) q11
set_option maxHeartbeats 4000000 in
theorem jX9_sum_c23 {γ : GP} {σ0 : Hp} {q : ((Nat ⊕ Option Nat) × Hp)} (hγ : GOK γ) {d : Nat} (rec : Option Nat → Hp → Option ((Nat ⊕ Option Nat) × Hp)) (hrec : ∀ (x0 : Option Nat) (σ : Hp) (q : ((Nat ⊕ Option Nat) × Hp)), rec x0 σ = some q → Rn γ (mX9_sum d) yX9_sum [va_rf x0] (σ, fxR q.1, q.2)) (l0 : Option Nat) (l1 : Option Nat) {k5 : Option Nat → Hp → Option ((Nat ⊕ Option Nat) × Hp)} (hk5 : ∀ (l1 : Option Nat) (σ : Hp), k5 l1 σ = some q → J γ (mX9_sum (d + 1)) (σ0, fxR q.1, q.2) σ 5 [(0, 1, va_rf l0), (1, 1, va_rf l1)] [])  (σ : Hp) (h : X9_sum_c23 rec k5 l0 l1 σ = some q) : J γ (mX9_sum (d + 1)) (σ0, fxR q.1, q.2) σ 23 [(0, 1, va_rf l0), (1, 1, va_rf l1)] [] := by
  unfold X9_sum_c23 at h
  refine J_aload_n (i := 0) 0 24 dX9_sum_23 rfl rfl rfl ?_
  obtain ⟨v1, hv1, h⟩ := some_of_bind h
  refine J_gR 27 dX9_sum_24 rfl fk_r_316 hv1 ?_
  obtain ⟨v2, hv2, h⟩ := some_of_bind h
  refine J_gR 30 dX9_sum_27 rfl fk_r_317 hv2 ?_
  refine J_aload_n (i := 0) 0 31 dX9_sum_30 rfl rfl rfl ?_
  obtain ⟨v3, hv3, h⟩ := some_of_bind h
  refine J_gI 34 dX9_sum_31 rfl fk_r_318 hv3 ?_
  obtain ⟨v4, hv4, h⟩ := some_of_bind h
  refine J_bald 35 dX9_sum_34 rfl hv4 ?_
  refine J_istore_n (i := 2) 36 [(2, 1, .int v4), (0, 1, va_rf l0), (1, 1, va_rf l1)] dX9_sum_35 rfl rfl (Nat.le_of_ble_eq_true rfl) rfl ?_
  refine J_aload_n (i := 0) 1 37 dX9_sum_36 rfl rfl rfl ?_
  obtain ⟨b6, hb6, h⟩ := some_of_bind h
  obtain ⟨q5, hq5, h⟩ := some_of_bind h
  refine J_cWv 40 dX9_sum_37 rfl ykX9_next (Or.inl q1120) q1121 (show (1) + 1 ≤ 10 + 3 * (d + 1) by omega) cs_nil (by decide) [] (RC.two hb6 (by decide) (by decide) rfl rfl q1123 q1124) rfl rfl (sX9_next hγ l0  σ q5 hq5) ?_
  refine J_new (c9 := 16) (nsl := 3) rfl (by decide) (by decide +kernel) q1305 q1306 q163 43 dX9_sum_40 rfl ?_
  refine J_dupr 44 dX9_sum_43 rfl ?_
  refine J_aload_n (i := 1) 2 45 dX9_sum_44 rfl rfl rfl ?_
  refine J_iload_n (i := 2) 0 46 dX9_sum_45 rfl rfl rfl ?_
  refine J_aload_n (i := 0) 1 47 dX9_sum_46 rfl rfl rfl ?_
  obtain ⟨b8, hb8, h⟩ := some_of_bind h
  obtain ⟨q7, hq7, h⟩ := some_of_bind h
  rcases bT_of h with ⟨a10, ha10, ht, hq⟩ | ⟨w9, hw9, h⟩
  · exact J_cWT dX9_sum_47 (ykX9_term d) (Or.inl q1213) q1215 (show (10 + 3 * d + 2) + 1 ≤ 10 + 3 * (d + 1) by omega) (cs_int (cs_rf (cs_rf (cs_rf cs_nil)))) (by decide) [] (RC.two hb8 (by decide) (by decide) rfl rfl qp6 qp15) rfl rfl (by have hx := sX9_term hγ rec hrec l0  (wN q5 16 0 3) q7 hq7; rw [ha10] at hx; exact hx) (JT_out rfl ht (thrR hq))
  · refine J_cWr 50 dX9_sum_47 rfl (ykX9_term d) (Or.inl q1213) q1215 (show (10 + 3 * d + 2) + 1 ≤ 10 + 3 * (d + 1) by omega) (cs_int (cs_rf (cs_rf (cs_rf cs_nil)))) (by decide) [] (RC.two hb8 (by decide) (by decide) rfl rfl qp6 qp15) rfl rfl (by have hx := sX9_term hγ rec hrec l0  (wN q5 16 0 3) q7 hq7; rw [hw9] at hx; exact hx) ?_
    obtain ⟨b12, hb12, h⟩ := some_of_bind h
    obtain ⟨q11, hq11, h⟩ := some_of_bind h
    refine J_cI 53 dX9_sum_50 rfl ykX16_init rfl (Or.inl q1307) q1308 rfl (show (2) + 1 ≤ 10 + 3 * (d + 1) by omega) (cs_rf cs_nil) (by decide) [va_rf l1, .int v4, va_rf w9] hb12 rfl rfl (sX16_init hγ (some (hsz q5)) l1 v4 w9 q7.2 q11 hq11) ?_
    refine J_astore_n (i := 1) 54 [(1, 1, va_rf (some (hsz q5))), (2, 1, .int v4), (0, 1, va_rf l0)] dX9_sum_53 rfl rfl (Nat.le_of_ble_eq_true rfl) rfl ?_
    refine J_goto 5 dX9_sum_54 (by decide) ?_
    refine J.pick [2, 0] rfl ?_
    exact hk5 (some (hsz q5)) q11 h
def X9_sum_c5 (rec : Option Nat → Hp → Option ((Nat ⊕ Option Nat) × Hp)) (l0 : Option Nat)  : Nat → Option Nat → Hp → Option ((Nat ⊕ Option Nat) × Hp)
  | 0, _, _ => none
  | n + 1, l1, σ =>
    (cT2 σ l0 10 23).bind fun b2 =>
    (X9_isWord l0 (hst σ 105) σ).bind fun q1 =>
    if q1.1 = 0 then
      (cT2 q1.2 l0 10 23).bind fun b5 =>
      (X9_isWord l0 (hst q1.2 107) q1.2).bind fun q4 =>
      if q4.1 = 0 then
        some (Sum.inr l1, q4.2)
      else
        X9_sum_c23 rec (X9_sum_c5 rec l0 n) l0 l1  q4.2
    else
      X9_sum_c23 rec (X9_sum_c5 rec l0 n) l0 l1  q1.2
set_option maxHeartbeats 4000000 in
theorem jX9_sum_c5 {γ : GP} {σ0 : Hp} {q : ((Nat ⊕ Option Nat) × Hp)} (hγ : GOK γ) {d : Nat} (rec : Option Nat → Hp → Option ((Nat ⊕ Option Nat) × Hp)) (hrec : ∀ (x0 : Option Nat) (σ : Hp) (q : ((Nat ⊕ Option Nat) × Hp)), rec x0 σ = some q → Rn γ (mX9_sum d) yX9_sum [va_rf x0] (σ, fxR q.1, q.2)) (l0 : Option Nat)  : ∀ (n : Nat) (l1 : Option Nat) (σ : Hp), X9_sum_c5 rec l0 n l1 σ = some q → J γ (mX9_sum (d + 1)) (σ0, fxR q.1, q.2) σ 5 [(0, 1, va_rf l0), (1, 1, va_rf l1)] [] := by
  intro n
  induction n with
  | zero => intro l1 σ h; exact nomatch (show none = some q from h)
  | succ n ih =>
    intro l1 σ h
    rw [X9_sum_c5] at h
    refine J_aload_n (i := 0) 0 6 dX9_sum_5 rfl rfl rfl ?_
    refine J_ldcS (k := 105) (tx := "+") (show (105, "MissCurves$Reader", 157, "+") ∈ strl by decide) 8 dX9_sum_6 rfl ?_
    obtain ⟨b2, hb2, h⟩ := some_of_bind h
    obtain ⟨q1, hq1, h⟩ := some_of_bind h
    refine J_cWi 11 dX9_sum_8 rfl ykX9_isWord (Or.inl q1174) q1175 (show (6) + 1 ≤ 10 + 3 * (d + 1) by omega) cs_nil (by decide) [va_rf (hst σ 105)] (RC.two hb2 (by decide) (by decide) rfl rfl q1177 q1178) rfl rfl (sX9_isWord hγ l0 (hst σ 105) σ q1 hq1) ?_
    refine J_if_ne 23 14 dX9_sum_11 (by decide) rfl (fun c3 => ?_) (fun c3 => ?_)
    · rw [if_neg c3] at h
      exact jX9_sum_c23 hγ rec hrec l0 l1 ih  q1.2 h
    · rw [if_pos c3] at h
      refine J_aload_n (i := 0) 0 15 dX9_sum_14 rfl rfl rfl ?_
      refine J_ldcS (k := 107) (tx := "-") (show (107, "MissCurves$Reader", 159, "-") ∈ strl by decide) 17 dX9_sum_15 rfl ?_
      obtain ⟨b5, hb5, h⟩ := some_of_bind h
      obtain ⟨q4, hq4, h⟩ := some_of_bind h
      refine J_cWi 20 dX9_sum_17 rfl ykX9_isWord (Or.inl q1174) q1175 (show (6) + 1 ≤ 10 + 3 * (d + 1) by omega) cs_nil (by decide) [va_rf (hst q1.2 107)] (RC.two hb5 (by decide) (by decide) rfl rfl q1177 q1178) rfl rfl (sX9_isWord hγ l0 (hst q1.2 107) q1.2 q4 hq4) ?_
      refine J_if_eq 57 23 dX9_sum_20 (by decide) rfl (fun c6 => ?_) (fun c6 => ?_)
      · rw [if_pos c6] at h
        refine J_aload_n (i := 1) 1 58 dX9_sum_57 rfl rfl rfl ?_
        exact J_aret rfl (Or.inl ⟨_, rfl⟩) dX9_sum_58 (retRX h)
      · rw [if_neg c6] at h
        exact jX9_sum_c23 hγ rec hrec l0 l1 ih  q4.2 h
def X9_sum_b (rec : Option Nat → Hp → Option ((Nat ⊕ Option Nat) × Hp)) (l0 : Option Nat) (σ : Hp) : Option ((Nat ⊕ Option Nat) × Hp) :=
  (cT2 σ l0 10 23).bind fun b2 =>
  (X9_term rec l0  σ).bind fun q1 =>
  bT q1 fun w3 =>
  X9_sum_c5 rec l0  FUEL w3 q1.2
set_option maxHeartbeats 4000000 in
theorem sX9_sum_b {γ : GP} (hγ : GOK γ) {d : Nat} (rec : Option Nat → Hp → Option ((Nat ⊕ Option Nat) × Hp)) (hrec : ∀ (x0 : Option Nat) (σ : Hp) (q : ((Nat ⊕ Option Nat) × Hp)), rec x0 σ = some q → Rn γ (mX9_sum d) yX9_sum [va_rf x0] (σ, fxR q.1, q.2)) (l0 : Option Nat) (σ : Hp) (q : ((Nat ⊕ Option Nat) × Hp)) (h : X9_sum_b rec l0 σ = some q) : Rn γ (mX9_sum (d + 1)) yX9_sum [va_rf l0] (σ, fxR q.1, q.2) := by
  refine J_mX hγ (ykX9_sum (d + 1)) rfl [(1, va_rf l0)] (cats_r cats_nil) (Nat.le_of_ble_eq_true rfl) ?_
  show J γ (mX9_sum (d + 1)) _ σ 0 [(0, 1, va_rf l0)] []
  unfold X9_sum_b at h
  refine J_aload_n (i := 0) 0 1 dX9_sum_0 rfl rfl rfl ?_
  obtain ⟨b2, hb2, h⟩ := some_of_bind h
  obtain ⟨q1, hq1, h⟩ := some_of_bind h
  rcases bT_of h with ⟨a4, ha4, ht, hq⟩ | ⟨w3, hw3, h⟩
  · exact J_cWT dX9_sum_1 (ykX9_term d) (Or.inl q1213) q1215 (show (10 + 3 * d + 2) + 1 ≤ 10 + 3 * (d + 1) by omega) cs_nil (by decide) [] (RC.two hb2 (by decide) (by decide) rfl rfl qp6 qp15) rfl rfl (by have hx := sX9_term hγ rec hrec l0  σ q1 hq1; rw [ha4] at hx; exact hx) (JT_out rfl ht (thrR hq))
  · refine J_cWr 4 dX9_sum_1 rfl (ykX9_term d) (Or.inl q1213) q1215 (show (10 + 3 * d + 2) + 1 ≤ 10 + 3 * (d + 1) by omega) cs_nil (by decide) [] (RC.two hb2 (by decide) (by decide) rfl rfl qp6 qp15) rfl rfl (by have hx := sX9_term hγ rec hrec l0  σ q1 hq1; rw [hw3] at hx; exact hx) ?_
    refine J_astore_n (i := 1) 5 [(1, 1, va_rf w3), (0, 1, va_rf l0)] dX9_sum_4 rfl rfl (Nat.le_of_ble_eq_true rfl) rfl ?_
    refine J.pick [1, 0] rfl ?_
    refine jX9_sum_c5 hγ rec hrec l0  FUEL w3 q1.2 h
def X9_sum : Nat → Option Nat → Hp → Option ((Nat ⊕ Option Nat) × Hp)
  | 0, _, _ => none
  | d + 1, x0, σ => X9_sum_b (X9_sum d) x0 σ
theorem sX9_sum {γ : GP} (hγ : GOK γ) : ∀ (d : Nat) (x0 : Option Nat) (σ : Hp) (q : ((Nat ⊕ Option Nat) × Hp)), X9_sum d x0 σ = some q → Rn γ (mX9_sum d) yX9_sum [va_rf x0] (σ, fxR q.1, q.2) := by
  intro d
  induction d with
  | zero => intro x0 σ q h; exact nomatch (show none = some q from h)
  | succ d ih => intro x0 σ q h; exact sX9_sum_b (d := d) hγ (X9_sum d) ih x0 σ q h
abbrev mX19_init : MP := (cX19_init, "MissCurves$Compared", 4, (Option.none : Option FieldType), 2, "<init>", [])
theorem ykX19_init : YK yX19_init mX19_init 3 := ⟨q1354, q166, ⟨by decide, by decide⟩, by decide +kernel, Nat.le_of_ble_eq_true rfl, by decide, rfl, rfl⟩
theorem pk_r_347 : POK "MissCurves$Compared" "<init>" 7 [19] 0 (.object "MissCurves$Sum") := POK.one (by decide) rfl (Nat.le_of_ble_eq_true rfl) (Or.inl ⟨_, q1359, Or.inl rfl⟩) rfl (by decide +kernel) (Or.inr ⟨rfl, rfl, rfl, _, q1359, Or.inl rfl⟩)
theorem pk_r_348 : POK "MissCurves$Compared" "<init>" 13 [19] 2 .int := POK.one (by decide) rfl (Nat.le_of_ble_eq_true rfl) (Or.inl ⟨_, q1361, Or.inl rfl⟩) rfl (by decide +kernel) (Or.inr ⟨rfl, rfl, rfl, _, q1361, Or.inl rfl⟩)
theorem pk_r_349 : POK "MissCurves$Compared" "<init>" 17 [19] 1 (.object "MissCurves$Sum") := POK.one (by decide) rfl (Nat.le_of_ble_eq_true rfl) (Or.inl ⟨_, q1360, Or.inl rfl⟩) rfl (by decide +kernel) (Or.inr ⟨rfl, rfl, rfl, _, q1360, Or.inl rfl⟩)
def X19_init (l0 : Option Nat) (l1 : Option Nat) (l2 : Int32) (l3 : Option Nat) (σ : Hp) : Option Hp :=
  l0.bind fun b2 =>
  (X18_init l0  σ).bind fun q1 =>
  (pR q1 l0 [19] 0 l1).bind fun σ3 =>
  (pI σ3 l0 [19] 2 l2).bind fun σ4 =>
  (pR σ4 l0 [19] 1 l3).bind fun σ5 =>
  some σ5
set_option maxHeartbeats 4000000 in
theorem sX19_init {γ : GP} (hγ : GOK γ) (l0 : Option Nat) (l1 : Option Nat) (l2 : Int32) (l3 : Option Nat) (σ : Hp) (q : Hp) (h : X19_init l0 l1 l2 l3 σ = some q) : Rn γ mX19_init yX19_init [va_rf l0, va_rf l1, .int l2, va_rf l3] (σ, .inr none, q) := by
  refine J_m hγ ykX19_init rfl [(1, va_rf l0), (1, va_rf l1), (1, .int l2), (1, va_rf l3)] (cats_r (cats_r (cats_i (cats_r cats_nil)))) (Nat.le_of_ble_eq_true rfl) ?_
  show J γ mX19_init _ σ 0 [(0, 1, va_rf l0), (1, 1, va_rf l1), (2, 1, .int l2), (3, 1, va_rf l3)] []
  unfold X19_init at h
  refine J_aload_n (i := 0) 0 1 dX19_init_0 rfl rfl rfl ?_
  obtain ⟨b2, hb2, h⟩ := some_of_bind h
  obtain ⟨q1, hq1, h⟩ := some_of_bind h
  refine J_cI 4 dX19_init_1 rfl ykX18_init rfl (Or.inr ⟨_, q1355⟩) q1356 rfl (Nat.le_of_ble_eq_true rfl) cs_nil (by decide) [] hb2 rfl rfl (sX18_init hγ l0  σ q1 hq1) ?_
  refine J_aload_n (i := 0) 0 5 dX19_init_4 rfl rfl rfl ?_
  refine J_aload_n (i := 1) 1 6 dX19_init_5 rfl rfl rfl ?_
  obtain ⟨σ3, hσ3, h⟩ := some_of_bind h
  refine J_pR rfl 9 dX19_init_6 rfl pk_r_347 hσ3 ?_
  refine J_aload_n (i := 0) 0 10 dX19_init_9 rfl rfl rfl ?_
  refine J_iload_n (i := 2) 2 11 dX19_init_10 rfl rfl rfl ?_
  obtain ⟨σ4, hσ4, h⟩ := some_of_bind h
  refine J_pI 14 dX19_init_11 rfl pk_r_348 hσ4 ?_
  refine J_aload_n (i := 0) 0 15 dX19_init_14 rfl rfl rfl ?_
  refine J_aload_n (i := 3) 3 16 dX19_init_15 rfl rfl rfl ?_
  obtain ⟨σ5, hσ5, h⟩ := some_of_bind h
  refine J_pR rfl 19 dX19_init_16 rfl pk_r_349 hσ5 ?_
  exact J_vret rfl dX19_init_19 (retV h)
abbrev mX20_init : MP := (cX20_init, "MissCurves$Not", 2, (Option.none : Option FieldType), 2, "<init>", [])
theorem ykX20_init : YK yX20_init mX20_init 1 := ⟨q1373, q167, ⟨by decide, by decide⟩, by decide +kernel, Nat.le_of_ble_eq_true rfl, by decide, rfl, rfl⟩
theorem pk_r_350 : POK "MissCurves$Not" "<init>" 7 [20] 0 (.object "MissCurves$Test") := POK.one (by decide) rfl (Nat.le_of_ble_eq_true rfl) (Or.inl ⟨_, q1375, Or.inl rfl⟩) rfl (by decide +kernel) (Or.inr ⟨rfl, rfl, rfl, _, q1375, Or.inl rfl⟩)
def X20_init (l0 : Option Nat) (l1 : Option Nat) (σ : Hp) : Option Hp :=
  l0.bind fun b2 =>
  (X18_init l0  σ).bind fun q1 =>
  (pR q1 l0 [20] 0 l1).bind fun σ3 =>
  some σ3
set_option maxHeartbeats 4000000 in
theorem sX20_init {γ : GP} (hγ : GOK γ) (l0 : Option Nat) (l1 : Option Nat) (σ : Hp) (q : Hp) (h : X20_init l0 l1 σ = some q) : Rn γ mX20_init yX20_init [va_rf l0, va_rf l1] (σ, .inr none, q) := by
  refine J_m hγ ykX20_init rfl [(1, va_rf l0), (1, va_rf l1)] (cats_r (cats_r cats_nil)) (Nat.le_of_ble_eq_true rfl) ?_
  show J γ mX20_init _ σ 0 [(0, 1, va_rf l0), (1, 1, va_rf l1)] []
  unfold X20_init at h
  refine J_aload_n (i := 0) 0 1 dX20_init_0 rfl rfl rfl ?_
  obtain ⟨b2, hb2, h⟩ := some_of_bind h
  obtain ⟨q1, hq1, h⟩ := some_of_bind h
  refine J_cI 4 dX20_init_1 rfl ykX18_init rfl (Or.inr ⟨_, q1374⟩) q1356 rfl (Nat.le_of_ble_eq_true rfl) cs_nil (by decide) [] hb2 rfl rfl (sX18_init hγ l0  σ q1 hq1) ?_
  refine J_aload_n (i := 0) 0 5 dX20_init_4 rfl rfl rfl ?_
  refine J_aload_n (i := 1) 1 6 dX20_init_5 rfl rfl rfl ?_
  obtain ⟨σ3, hσ3, h⟩ := some_of_bind h
  refine J_pR rfl 9 dX20_init_6 rfl pk_r_350 hσ3 ?_
  exact J_vret rfl dX20_init_9 (retV h)
abbrev mX9_test (d : Nat) : MP := (cX9_test, "MissCurves$Reader", 2, (Option.some (FieldType.object "MissCurves$Test")), 48 + 3 * d, "test", [])
theorem ykX9_test (d : Nat) : YK yX9_test (mX9_test d) 0 := ⟨q1334, q156, ⟨by decide, by decide⟩, by decide +kernel, Nat.le_of_ble_eq_true rfl, by decide, rfl, rfl⟩
abbrev mX9_plain (d : Nat) : MP := (cX9_plain, "MissCurves$Reader", 5, (Option.some (FieldType.object "MissCurves$Test")), 48 + 3 * d + 1, "plain", [])
theorem ykX9_plain (d : Nat) : YK yX9_plain (mX9_plain d) 0 := ⟨q1342, q156, ⟨by decide, by decide⟩, by decide +kernel, Nat.le_of_ble_eq_true rfl, by decide, rfl, rfl⟩
def X9_plain_c2 (rec : Option Nat → Hp → Option ((Nat ⊕ Option Nat) × Hp)) (l0 : Option Nat) (k24 : Int32 → Hp → Option ((Nat ⊕ Option Nat) × Hp)) : Nat → Int32 → Hp → Option ((Nat ⊕ Option Nat) × Hp)
  | 0, _, _ => none
  | n + 1, l1, σ =>
    (cT2 σ l0 10 23).bind fun b2 =>
    (X9_accept l0 (hst σ 137) σ).bind fun q1 =>
    if q1.1 = 0 then
      k24 l1 q1.2
    else
      if l1 = 0 then
        X9_plain_c2 rec l0 k24 n (1 : Int32) q1.2
      else
        X9_plain_c2 rec l0 k24 n (0 : Int32) q1.2
set_option maxHeartbeats 4000000 in
theorem jX9_plain_c2 {γ : GP} {σ0 : Hp} {q : ((Nat ⊕ Option Nat) × Hp)} (hγ : GOK γ) {d : Nat} (rec : Option Nat → Hp → Option ((Nat ⊕ Option Nat) × Hp)) (hrec : ∀ (x0 : Option Nat) (σ : Hp) (q : ((Nat ⊕ Option Nat) × Hp)), rec x0 σ = some q → Rn γ (mX9_test d) yX9_test [va_rf x0] (σ, fxR q.1, q.2)) (l0 : Option Nat) {k24 : Int32 → Hp → Option ((Nat ⊕ Option Nat) × Hp)} (hk24 : ∀ (l1 : Int32) (σ : Hp), k24 l1 σ = some q → J γ (mX9_plain d) (σ0, fxR q.1, q.2) σ 24 [(0, 1, va_rf l0), (1, 1, .int l1)] []) : ∀ (n : Nat) (l1 : Int32) (σ : Hp), X9_plain_c2 rec l0 k24 n l1 σ = some q → J γ (mX9_plain d) (σ0, fxR q.1, q.2) σ 2 [(0, 1, va_rf l0), (1, 1, .int l1)] [] := by
  intro n
  induction n with
  | zero => intro l1 σ h; exact nomatch (show none = some q from h)
  | succ n ih =>
    intro l1 σ h
    rw [X9_plain_c2] at h
    refine J_aload_n (i := 0) 0 3 dX9_plain_2 rfl rfl rfl ?_
    refine J_ldcS (k := 137) (tx := "not") (show (137, "MissCurves$Reader", 119, "not") ∈ strl by decide) 5 dX9_plain_3 rfl ?_
    obtain ⟨b2, hb2, h⟩ := some_of_bind h
    obtain ⟨q1, hq1, h⟩ := some_of_bind h
    refine J_cWi 8 dX9_plain_5 rfl ykX9_accept (Or.inl q1232) q1233 (show (7) + 1 ≤ 48 + 3 * d + 1 by omega) cs_nil (by decide) [va_rf (hst σ 137)] (RC.two hb2 (by decide) (by decide) rfl rfl q1235 q1236) rfl rfl (sX9_accept hγ l0 (hst σ 137) σ q1 hq1) ?_
    refine J_if_eq 24 11 dX9_plain_8 (by decide) rfl (fun c3 => ?_) (fun c3 => ?_)
    · rw [if_pos c3] at h
      exact hk24 l1 q1.2 h
    · rw [if_neg c3] at h
      refine J_iload_n (i := 1) 1 12 dX9_plain_11 rfl rfl rfl ?_
      refine J_if_ne 19 15 dX9_plain_12 (by decide) rfl (fun c4 => ?_) (fun c4 => ?_)
      · rw [if_neg c4] at h
        refine J_ic 20 dX9_plain_19 rfl (0 : Int32) kic_0 ?_
        refine J_istore_n (i := 1) 21 [(1, 1, .int (0 : Int32)), (0, 1, va_rf l0)] dX9_plain_20 rfl rfl (Nat.le_of_ble_eq_true rfl) rfl ?_
        refine J_goto 2 dX9_plain_21 (by decide) ?_
        refine J.pick [1, 0] rfl ?_
        exact ih (0 : Int32) q1.2 h
      · rw [if_pos c4] at h
        refine J_ic 16 dX9_plain_15 rfl (1 : Int32) kic_1 ?_
        refine J_goto 20 dX9_plain_16 (by decide) ?_
        refine J_istore_n (i := 1) 21 [(1, 1, .int (1 : Int32)), (0, 1, va_rf l0)] dX9_plain_20 rfl rfl (Nat.le_of_ble_eq_true rfl) rfl ?_
        refine J_goto 2 dX9_plain_21 (by decide) ?_
        refine J.pick [1, 0] rfl ?_
        exact ih (1 : Int32) q1.2 h
def X9_plain_c125 (rec : Option Nat → Hp → Option ((Nat ⊕ Option Nat) × Hp))  (l1 : Int32) (l2 : Option Nat)  (σ : Hp) : Option ((Nat ⊕ Option Nat) × Hp) :=
  if l1 = 0 then
    some (Sum.inr l2, σ)
  else
    (some (hsz σ)).bind fun b3 =>
    (X20_init (some (hsz σ)) l2 (wN σ 20 0 1)).bind fun q2 =>
    some (Sum.inr (some (hsz σ)), q2)
set_option maxHeartbeats 4000000 in
theorem jX9_plain_c125 {γ : GP} {σ0 : Hp} {q : ((Nat ⊕ Option Nat) × Hp)} (hγ : GOK γ) {d : Nat} (rec : Option Nat → Hp → Option ((Nat ⊕ Option Nat) × Hp)) (hrec : ∀ (x0 : Option Nat) (σ : Hp) (q : ((Nat ⊕ Option Nat) × Hp)), rec x0 σ = some q → Rn γ (mX9_test d) yX9_test [va_rf x0] (σ, fxR q.1, q.2)) (l1 : Int32) (l2 : Option Nat)   (σ : Hp) (h : X9_plain_c125 rec l1 l2 σ = some q) : J γ (mX9_plain d) (σ0, fxR q.1, q.2) σ 125 [(1, 1, .int l1), (2, 1, va_rf l2)] [] := by
  unfold X9_plain_c125 at h
  refine J_iload_n (i := 1) 0 126 dX9_plain_125 rfl rfl rfl ?_
  refine J_if_eq 140 129 dX9_plain_126 (by decide) rfl (fun c1 => ?_) (fun c1 => ?_)
  · rw [if_pos c1] at h
    refine J_aload_n (i := 2) 1 141 dX9_plain_140 rfl rfl rfl ?_
    exact J_aret rfl (Or.inl ⟨_, rfl⟩) dX9_plain_141 (retRX h)
  · rw [if_neg c1] at h
    refine J_new (c9 := 20) (nsl := 1) rfl (by decide) (by decide +kernel) q1369 q1370 q167 132 dX9_plain_129 rfl ?_
    refine J_dupr 133 dX9_plain_132 rfl ?_
    refine J_aload_n (i := 2) 1 134 dX9_plain_133 rfl rfl rfl ?_
    obtain ⟨b3, hb3, h⟩ := some_of_bind h
    obtain ⟨q2, hq2, h⟩ := some_of_bind h
    refine J_cI 137 dX9_plain_134 rfl ykX20_init rfl (Or.inl q1371) q1372 rfl (show (2) + 1 ≤ 48 + 3 * d + 1 by omega) (cs_rf cs_nil) (by decide) [va_rf l2] hb3 rfl rfl (sX20_init hγ (some (hsz σ)) l2 (wN σ 20 0 1) q2 hq2) ?_
    refine J_goto 141 dX9_plain_137 (by decide) ?_
    exact J_aret rfl (Or.inl ⟨_, rfl⟩) dX9_plain_141 (retRX h)
def X9_plain_c89 (rec : Option Nat → Hp → Option ((Nat ⊕ Option Nat) × Hp))  (l0 : Option Nat) (l1 : Int32) (l3 : Option Nat) (s0 : Option Nat) (s1 : Int32) (σ : Hp) : Option ((Nat ⊕ Option Nat) × Hp) :=
  (cT2 σ s0 10 23).bind fun b2 =>
  (X9_must s0 s1 σ).bind fun q1 =>
  bT q1 fun w3 =>
  (gR q1.2 l0 [10, 23] 7).bind fun v5 =>
  (gR q1.2 v5 [0] 14).bind fun v6 =>
  (gI q1.2 l0 [10, 23] 0).bind fun v7 =>
  (aI 2 q1.2 v6 v7).bind fun v8 =>
  (cT2 q1.2 l0 10 23).bind fun b10 =>
  (X9_next l0  q1.2).bind fun q9 =>
  (cT2 (wN q9 19 0 3) l0 10 23).bind fun b12 =>
  (X9_sum 12 l0  (wN q9 19 0 3)).bind fun q11 =>
  bT q11 fun w13 =>
  (some (hsz q9)).bind fun b16 =>
  (X19_init (some (hsz q9)) l3 v8 w13 q11.2).bind fun q15 =>
  X9_plain_c125 rec  l1 (some (hsz q9))  q15
set_option maxHeartbeats 4000000 in
theorem jX9_plain_c89 {γ : GP} {σ0 : Hp} {q : ((Nat ⊕ Option Nat) × Hp)} (hγ : GOK γ) {d : Nat} (rec : Option Nat → Hp → Option ((Nat ⊕ Option Nat) × Hp)) (hrec : ∀ (x0 : Option Nat) (σ : Hp) (q : ((Nat ⊕ Option Nat) × Hp)), rec x0 σ = some q → Rn γ (mX9_test d) yX9_test [va_rf x0] (σ, fxR q.1, q.2)) (l0 : Option Nat) (l1 : Int32) (l3 : Option Nat)  (s0 : Option Nat) (s1 : Int32) (σ : Hp) (h : X9_plain_c89 rec l0 l1 l3 s0 s1 σ = some q) : J γ (mX9_plain d) (σ0, fxR q.1, q.2) σ 89 [(0, 1, va_rf l0), (1, 1, .int l1), (3, 1, va_rf l3)] [.int s1, va_rf s0] := by
  unfold X9_plain_c89 at h
  obtain ⟨b2, hb2, h⟩ := some_of_bind h
  obtain ⟨q1, hq1, h⟩ := some_of_bind h
  rcases bT_of h with ⟨a4, ha4, ht, hq⟩ | ⟨w3, hw3, h⟩
  · exact J_cWT dX9_plain_89 ykX9_must (Or.inl q1132) q1133 (show (4) + 1 ≤ 48 + 3 * d + 1 by omega) cs_nil (by decide) [.int s1] (RC.two hb2 (by decide) (by decide) rfl rfl q1135 q1136) rfl rfl (by have hx := sX9_must hγ s0 s1 σ q1 hq1; rw [ha4] at hx; exact hx) (JT_out rfl ht (thrR hq))
  · refine J_cWv 92 dX9_plain_89 rfl ykX9_must (Or.inl q1132) q1133 (show (4) + 1 ≤ 48 + 3 * d + 1 by omega) cs_nil (by decide) [.int s1] (RC.two hb2 (by decide) (by decide) rfl rfl q1135 q1136) rfl rfl (by have hx := sX9_must hγ s0 s1 σ q1 hq1; rw [hw3] at hx; exact hx) ?_
    refine J_aload_n (i := 0) 0 93 dX9_plain_92 rfl rfl rfl ?_
    obtain ⟨v5, hv5, h⟩ := some_of_bind h
    refine J_gR 96 dX9_plain_93 rfl fk_r_316 hv5 ?_
    obtain ⟨v6, hv6, h⟩ := some_of_bind h
    refine J_gR 99 dX9_plain_96 rfl fk_r_317 hv6 ?_
    refine J_aload_n (i := 0) 0 100 dX9_plain_99 rfl rfl rfl ?_
    obtain ⟨v7, hv7, h⟩ := some_of_bind h
    refine J_gI 103 dX9_plain_100 rfl fk_r_318 hv7 ?_
    obtain ⟨v8, hv8, h⟩ := some_of_bind h
    refine J_bald 104 dX9_plain_103 rfl hv8 ?_
    refine J_istore (i := 4) 106 [(4, 1, .int v8), (0, 1, va_rf l0), (1, 1, .int l1), (3, 1, va_rf l3)] dX9_plain_104 rfl (Nat.le_of_ble_eq_true rfl) rfl ?_
    refine J_aload_n (i := 0) 1 107 dX9_plain_106 rfl rfl rfl ?_
    obtain ⟨b10, hb10, h⟩ := some_of_bind h
    obtain ⟨q9, hq9, h⟩ := some_of_bind h
    refine J_cWv 110 dX9_plain_107 rfl ykX9_next (Or.inl q1120) q1121 (show (1) + 1 ≤ 48 + 3 * d + 1 by omega) cs_nil (by decide) [] (RC.two hb10 (by decide) (by decide) rfl rfl q1123 q1124) rfl rfl (sX9_next hγ l0  q1.2 q9 hq9) ?_
    refine J_new (c9 := 19) (nsl := 3) rfl (by decide) (by decide +kernel) q1350 q1351 q166 113 dX9_plain_110 rfl ?_
    refine J_dupr 114 dX9_plain_113 rfl ?_
    refine J_aload_n (i := 3) 3 115 dX9_plain_114 rfl rfl rfl ?_
    refine J_iload (i := 4) 0 117 dX9_plain_115 rfl rfl ?_
    refine J_aload_n (i := 0) 1 118 dX9_plain_117 rfl rfl rfl ?_
    obtain ⟨b12, hb12, h⟩ := some_of_bind h
    obtain ⟨q11, hq11, h⟩ := some_of_bind h
    rcases bT_of h with ⟨a14, ha14, ht, hq⟩ | ⟨w13, hw13, h⟩
    · exact J_cWT dX9_plain_118 (ykX9_sum 12) (Or.inl q1226) q1211 (show (46) + 1 ≤ 48 + 3 * d + 1 by omega) (cs_int (cs_rf (cs_rf (cs_rf cs_nil)))) (by decide) [] (RC.two hb12 (by decide) (by decide) rfl rfl q2986 q2987) rfl rfl (by have hx := sX9_sum hγ 12 l0  (wN q9 19 0 3) q11 hq11; rw [ha14] at hx; exact hx) (JT_out rfl ht (thrR hq))
    · refine J_cWr 121 dX9_plain_118 rfl (ykX9_sum 12) (Or.inl q1226) q1211 (show (46) + 1 ≤ 48 + 3 * d + 1 by omega) (cs_int (cs_rf (cs_rf (cs_rf cs_nil)))) (by decide) [] (RC.two hb12 (by decide) (by decide) rfl rfl q2986 q2987) rfl rfl (by have hx := sX9_sum hγ 12 l0  (wN q9 19 0 3) q11 hq11; rw [hw13] at hx; exact hx) ?_
      obtain ⟨b16, hb16, h⟩ := some_of_bind h
      obtain ⟨q15, hq15, h⟩ := some_of_bind h
      refine J_cI 124 dX9_plain_121 rfl ykX19_init rfl (Or.inl q1352) q1353 rfl (show (2) + 1 ≤ 48 + 3 * d + 1 by omega) (cs_rf cs_nil) (by decide) [va_rf l3, .int v8, va_rf w13] hb16 rfl rfl (sX19_init hγ (some (hsz q9)) l3 v8 w13 q11.2 q15 hq15) ?_
      refine J_astore_n (i := 2) 125 [(2, 1, va_rf (some (hsz q9))), (4, 1, .int v8), (0, 1, va_rf l0), (1, 1, .int l1), (3, 1, va_rf l3)] dX9_plain_124 rfl rfl (Nat.le_of_ble_eq_true rfl) rfl ?_
      refine J.pick [3, 0] rfl ?_
      exact jX9_plain_c125 hγ rec hrec l1 (some (hsz q9))  q15 h
def X9_plain (rec : Option Nat → Hp → Option ((Nat ⊕ Option Nat) × Hp)) (l0 : Option Nat) (σ : Hp) : Option ((Nat ⊕ Option Nat) × Hp) :=
  X9_plain_c2 rec l0 (fun x1 τ2 =>
    (cT2 τ2 l0 10 23).bind fun b4 =>
    (X9_isWord l0 (hst τ2 102) τ2).bind fun q3 =>
    if q3.1 = 0 then
      (cT2 q3.2 l0 10 23).bind fun b7 =>
      (X9_sum 12 l0  q3.2).bind fun q6 =>
      bT q6 fun w8 =>
      (cT2 q6.2 l0 10 23).bind fun b11 =>
      (X9_isWord l0 (hst q6.2 113) q6.2).bind fun q10 =>
      if q10.1 = 0 then
        (cT2 q10.2 l0 10 23).bind fun b14 =>
        (X9_isWord l0 (hst q10.2 115) q10.2).bind fun q13 =>
        if q13.1 = 0 then
          (cT2 q13.2 l0 10 23).bind fun b17 =>
          (X9_isWord l0 (hst q13.2 114) q13.2).bind fun q16 =>
          if q16.1 = 0 then
            X9_plain_c89 rec  l0 x1 w8 l0 (0 : Int32) q16.2
          else
            X9_plain_c89 rec  l0 x1 w8 l0 (1 : Int32) q16.2
        else
          X9_plain_c89 rec  l0 x1 w8 l0 (1 : Int32) q13.2
      else
        X9_plain_c89 rec  l0 x1 w8 l0 (1 : Int32) q10.2
    else
      (cT2 q3.2 l0 10 23).bind fun b20 =>
      (X9_open l0  q3.2).bind fun q19 =>
      bT q19 fun w21 =>
      (cT2 q19.2 l0 10 23).bind fun b24 =>
      (rec l0  q19.2).bind fun q23 =>
      bT q23 fun w25 =>
      (cT2 q23.2 l0 10 23).bind fun b28 =>
      (X9_close l0 (hst q23.2 103) q23.2).bind fun q27 =>
      bT q27 fun w29 =>
      X9_plain_c125 rec  x1 w25  q27.2) FUEL (0 : Int32) σ
set_option maxHeartbeats 4000000 in
theorem sX9_plain {γ : GP} (hγ : GOK γ) {d : Nat} (rec : Option Nat → Hp → Option ((Nat ⊕ Option Nat) × Hp)) (hrec : ∀ (x0 : Option Nat) (σ : Hp) (q : ((Nat ⊕ Option Nat) × Hp)), rec x0 σ = some q → Rn γ (mX9_test d) yX9_test [va_rf x0] (σ, fxR q.1, q.2)) (l0 : Option Nat) (σ : Hp) (q : ((Nat ⊕ Option Nat) × Hp)) (h : X9_plain rec l0 σ = some q) : Rn γ (mX9_plain d) yX9_plain [va_rf l0] (σ, fxR q.1, q.2) := by
  refine J_mX hγ (ykX9_plain d) rfl [(1, va_rf l0)] (cats_r cats_nil) (Nat.le_of_ble_eq_true rfl) ?_
  show J γ (mX9_plain d) _ σ 0 [(0, 1, va_rf l0)] []
  unfold X9_plain at h
  refine J_ic 1 dX9_plain_0 rfl (0 : Int32) kic_0 ?_
  refine J_istore_n (i := 1) 2 [(1, 1, .int (0 : Int32)), (0, 1, va_rf l0)] dX9_plain_1 rfl rfl (Nat.le_of_ble_eq_true rfl) rfl ?_
  refine J.pick [1, 0] rfl ?_
  refine jX9_plain_c2 hγ rec hrec l0 (fun x1 τ2 h => ?_) FUEL (0 : Int32) σ h
  · refine J_aload_n (i := 0) 0 25 dX9_plain_24 rfl rfl rfl ?_
    refine J_ldcS (k := 102) (tx := "(") (show (102, "MissCurves$Reader", 121, "(") ∈ strl by decide) 27 dX9_plain_25 rfl ?_
    obtain ⟨b4, hb4, h⟩ := some_of_bind h
    obtain ⟨q3, hq3, h⟩ := some_of_bind h
    refine J_cWi 30 dX9_plain_27 rfl ykX9_isWord (Or.inl q1174) q1175 (show (6) + 1 ≤ 48 + 3 * d + 1 by omega) cs_nil (by decide) [va_rf (hst τ2 102)] (RC.two hb4 (by decide) (by decide) rfl rfl q1177 q1178) rfl rfl (sX9_isWord hγ l0 (hst τ2 102) τ2 q3 hq3) ?_
    refine J_if_eq 51 33 dX9_plain_30 (by decide) rfl (fun c5 => ?_) (fun c5 => ?_)
    · rw [if_pos c5] at h
      refine J_aload_n (i := 0) 0 52 dX9_plain_51 rfl rfl rfl ?_
      obtain ⟨b7, hb7, h⟩ := some_of_bind h
      obtain ⟨q6, hq6, h⟩ := some_of_bind h
      rcases bT_of h with ⟨a9, ha9, ht, hq⟩ | ⟨w8, hw8, h⟩
      · exact J_cWT dX9_plain_52 (ykX9_sum 12) (Or.inl q1226) q1211 (show (46) + 1 ≤ 48 + 3 * d + 1 by omega) cs_nil (by decide) [] (RC.two hb7 (by decide) (by decide) rfl rfl q2986 q2987) rfl rfl (by have hx := sX9_sum hγ 12 l0  q3.2 q6 hq6; rw [ha9] at hx; exact hx) (JT_out rfl ht (thrR hq))
      · refine J_cWr 55 dX9_plain_52 rfl (ykX9_sum 12) (Or.inl q1226) q1211 (show (46) + 1 ≤ 48 + 3 * d + 1 by omega) cs_nil (by decide) [] (RC.two hb7 (by decide) (by decide) rfl rfl q2986 q2987) rfl rfl (by have hx := sX9_sum hγ 12 l0  q3.2 q6 hq6; rw [hw8] at hx; exact hx) ?_
        refine J_astore_n (i := 3) 56 [(3, 1, va_rf w8), (0, 1, va_rf l0), (1, 1, .int x1)] dX9_plain_55 rfl rfl (Nat.le_of_ble_eq_true rfl) rfl ?_
        refine J_aload_n (i := 0) 1 57 dX9_plain_56 rfl rfl rfl ?_
        refine J_aload_n (i := 0) 1 58 dX9_plain_57 rfl rfl rfl ?_
        refine J_ldcS (k := 113) (tx := "<") (show (113, "MissCurves$Reader", 139, "<") ∈ strl by decide) 60 dX9_plain_58 rfl ?_
        obtain ⟨b11, hb11, h⟩ := some_of_bind h
        obtain ⟨q10, hq10, h⟩ := some_of_bind h
        refine J_cWi 63 dX9_plain_60 rfl ykX9_isWord (Or.inl q1174) q1175 (show (6) + 1 ≤ 48 + 3 * d + 1 by omega) (cs_rf cs_nil) (by decide) [va_rf (hst q6.2 113)] (RC.two hb11 (by decide) (by decide) rfl rfl q1177 q1178) rfl rfl (sX9_isWord hγ l0 (hst q6.2 113) q6.2 q10 hq10) ?_
        refine J_if_ne 84 66 dX9_plain_63 (by decide) rfl (fun c12 => ?_) (fun c12 => ?_)
        · rw [if_neg c12] at h
          refine J_ic 85 dX9_plain_84 rfl (1 : Int32) kic_1 ?_
          refine J_goto 89 dX9_plain_85 (by decide) ?_
          refine J.pick [1, 2, 0] rfl ?_
          exact jX9_plain_c89 hγ rec hrec l0 x1 w8 l0 (1 : Int32) q10.2 h
        · rw [if_pos c12] at h
          refine J_aload_n (i := 0) 1 67 dX9_plain_66 rfl rfl rfl ?_
          refine J_ldcS (k := 115) (tx := ">") (show (115, "MissCurves$Reader", 141, ">") ∈ strl by decide) 69 dX9_plain_67 rfl ?_
          obtain ⟨b14, hb14, h⟩ := some_of_bind h
          obtain ⟨q13, hq13, h⟩ := some_of_bind h
          refine J_cWi 72 dX9_plain_69 rfl ykX9_isWord (Or.inl q1174) q1175 (show (6) + 1 ≤ 48 + 3 * d + 1 by omega) (cs_rf cs_nil) (by decide) [va_rf (hst q10.2 115)] (RC.two hb14 (by decide) (by decide) rfl rfl q1177 q1178) rfl rfl (sX9_isWord hγ l0 (hst q10.2 115) q10.2 q13 hq13) ?_
          refine J_if_ne 84 75 dX9_plain_72 (by decide) rfl (fun c15 => ?_) (fun c15 => ?_)
          · rw [if_neg c15] at h
            refine J_ic 85 dX9_plain_84 rfl (1 : Int32) kic_1 ?_
            refine J_goto 89 dX9_plain_85 (by decide) ?_
            refine J.pick [1, 2, 0] rfl ?_
            exact jX9_plain_c89 hγ rec hrec l0 x1 w8 l0 (1 : Int32) q13.2 h
          · rw [if_pos c15] at h
            refine J_aload_n (i := 0) 1 76 dX9_plain_75 rfl rfl rfl ?_
            refine J_ldcS (k := 114) (tx := "=") (show (114, "MissCurves$Reader", 143, "=") ∈ strl by decide) 78 dX9_plain_76 rfl ?_
            obtain ⟨b17, hb17, h⟩ := some_of_bind h
            obtain ⟨q16, hq16, h⟩ := some_of_bind h
            refine J_cWi 81 dX9_plain_78 rfl ykX9_isWord (Or.inl q1174) q1175 (show (6) + 1 ≤ 48 + 3 * d + 1 by omega) (cs_rf cs_nil) (by decide) [va_rf (hst q13.2 114)] (RC.two hb17 (by decide) (by decide) rfl rfl q1177 q1178) rfl rfl (sX9_isWord hγ l0 (hst q13.2 114) q13.2 q16 hq16) ?_
            refine J_if_eq 88 84 dX9_plain_81 (by decide) rfl (fun c18 => ?_) (fun c18 => ?_)
            · rw [if_pos c18] at h
              refine J_ic 89 dX9_plain_88 rfl (0 : Int32) kic_0 ?_
              refine J.pick [1, 2, 0] rfl ?_
              exact jX9_plain_c89 hγ rec hrec l0 x1 w8 l0 (0 : Int32) q16.2 h
            · rw [if_neg c18] at h
              refine J_ic 85 dX9_plain_84 rfl (1 : Int32) kic_1 ?_
              refine J_goto 89 dX9_plain_85 (by decide) ?_
              refine J.pick [1, 2, 0] rfl ?_
              exact jX9_plain_c89 hγ rec hrec l0 x1 w8 l0 (1 : Int32) q16.2 h
    · rw [if_neg c5] at h
      refine J_aload_n (i := 0) 0 34 dX9_plain_33 rfl rfl rfl ?_
      obtain ⟨b20, hb20, h⟩ := some_of_bind h
      obtain ⟨q19, hq19, h⟩ := some_of_bind h
      rcases bT_of h with ⟨a22, ha22, ht, hq⟩ | ⟨w21, hw21, h⟩
      · exact J_cWT dX9_plain_34 ykX9_open (Or.inl q1222) q1224 (show (5) + 1 ≤ 48 + 3 * d + 1 by omega) cs_nil (by decide) [] (RC.two hb20 (by decide) (by decide) rfl rfl qp8 qp17) rfl rfl (by have hx := sX9_open hγ l0  q3.2 q19 hq19; rw [ha22] at hx; exact hx) (JT_out rfl ht (thrR hq))
      · refine J_cWv 37 dX9_plain_34 rfl ykX9_open (Or.inl q1222) q1224 (show (5) + 1 ≤ 48 + 3 * d + 1 by omega) cs_nil (by decide) [] (RC.two hb20 (by decide) (by decide) rfl rfl qp8 qp17) rfl rfl (by have hx := sX9_open hγ l0  q3.2 q19 hq19; rw [hw21] at hx; exact hx) ?_
        refine J_aload_n (i := 0) 0 38 dX9_plain_37 rfl rfl rfl ?_
        obtain ⟨b24, hb24, h⟩ := some_of_bind h
        obtain ⟨q23, hq23, h⟩ := some_of_bind h
        rcases bT_of h with ⟨a26, ha26, ht, hq⟩ | ⟨w25, hw25, h⟩
        · exact J_cWT dX9_plain_38 (ykX9_test d) (Or.inl q1345) q1333 (show (48 + 3 * d) + 1 ≤ 48 + 3 * d + 1 by omega) cs_nil (by decide) [] (RC.two hb24 (by decide) (by decide) rfl rfl q2996 q2997) rfl rfl (by have hx := hrec l0  q19.2 q23 hq23; rw [ha26] at hx; exact hx) (JT_out rfl ht (thrR hq))
        · refine J_cWr 41 dX9_plain_38 rfl (ykX9_test d) (Or.inl q1345) q1333 (show (48 + 3 * d) + 1 ≤ 48 + 3 * d + 1 by omega) cs_nil (by decide) [] (RC.two hb24 (by decide) (by decide) rfl rfl q2996 q2997) rfl rfl (by have hx := hrec l0  q19.2 q23 hq23; rw [hw25] at hx; exact hx) ?_
          refine J_astore_n (i := 2) 42 [(2, 1, va_rf w25), (0, 1, va_rf l0), (1, 1, .int x1)] dX9_plain_41 rfl rfl (Nat.le_of_ble_eq_true rfl) rfl ?_
          refine J_aload_n (i := 0) 1 43 dX9_plain_42 rfl rfl rfl ?_
          refine J_ldcS (k := 103) (tx := ")") (show (103, "MissCurves$Reader", 129, ")") ∈ strl by decide) 45 dX9_plain_43 rfl ?_
          obtain ⟨b28, hb28, h⟩ := some_of_bind h
          obtain ⟨q27, hq27, h⟩ := some_of_bind h
          rcases bT_of h with ⟨a30, ha30, ht, hq⟩ | ⟨w29, hw29, h⟩
          · exact J_cWT dX9_plain_45 ykX9_close (Or.inl q1228) q1230 (show (8) + 1 ≤ 48 + 3 * d + 1 by omega) cs_nil (by decide) [va_rf (hst q23.2 103)] (RC.two hb28 (by decide) (by decide) rfl rfl qp9 qp18) rfl rfl (by have hx := sX9_close hγ l0 (hst q23.2 103) q23.2 q27 hq27; rw [ha30] at hx; exact hx) (JT_out rfl ht (thrR hq))
          · refine J_cWv 48 dX9_plain_45 rfl ykX9_close (Or.inl q1228) q1230 (show (8) + 1 ≤ 48 + 3 * d + 1 by omega) cs_nil (by decide) [va_rf (hst q23.2 103)] (RC.two hb28 (by decide) (by decide) rfl rfl qp9 qp18) rfl rfl (by have hx := sX9_close hγ l0 (hst q23.2 103) q23.2 q27 hq27; rw [hw29] at hx; exact hx) ?_
            refine J_goto 125 dX9_plain_48 (by decide) ?_
            refine J.pick [2, 0] rfl ?_
            exact jX9_plain_c125 hγ rec hrec x1 w25  q27.2 h
abbrev mX9_both (d : Nat) : MP := (cX9_both, "MissCurves$Reader", 2, (Option.some (FieldType.object "MissCurves$Test")), 48 + 3 * d + 2, "both", [])
theorem ykX9_both (d : Nat) : YK yX9_both (mX9_both d) 0 := ⟨q1338, q156, ⟨by decide, by decide⟩, by decide +kernel, Nat.le_of_ble_eq_true rfl, by decide, rfl, rfl⟩
def X9_both_c13 (rec : Option Nat → Hp → Option ((Nat ⊕ Option Nat) × Hp)) (l0 : Option Nat) (l1 : Int32) (k33 : Hp → Option ((Nat ⊕ Option Nat) × Hp)) : Nat → Hp → Option ((Nat ⊕ Option Nat) × Hp)
  | 0, _ => none
  | n + 1, σ =>
    (cT2 σ l0 10 23).bind fun b2 =>
    (X9_accept l0 (hst σ 118) σ).bind fun q1 =>
    if q1.1 = 0 then
      k33  q1.2
    else
      (cT2 q1.2 l0 10 23).bind fun b5 =>
      (X9_plain rec l0  q1.2).bind fun q4 =>
      bT q4 fun w6 =>
      (cT2 q4.2 l0 10 23).bind fun b9 =>
      (X9_add l0 w6 q4.2).bind fun q8 =>
      X9_both_c13 rec l0 l1 k33 n  q8
set_option maxHeartbeats 4000000 in
theorem jX9_both_c13 {γ : GP} {σ0 : Hp} {q : ((Nat ⊕ Option Nat) × Hp)} (hγ : GOK γ) {d : Nat} (rec : Option Nat → Hp → Option ((Nat ⊕ Option Nat) × Hp)) (hrec : ∀ (x0 : Option Nat) (σ : Hp) (q : ((Nat ⊕ Option Nat) × Hp)), rec x0 σ = some q → Rn γ (mX9_test d) yX9_test [va_rf x0] (σ, fxR q.1, q.2)) (l0 : Option Nat) (l1 : Int32) {k33 : Hp → Option ((Nat ⊕ Option Nat) × Hp)} (hk33 : ∀  (σ : Hp), k33  σ = some q → J γ (mX9_both d) (σ0, fxR q.1, q.2) σ 33 [(0, 1, va_rf l0), (1, 1, .int l1)] []) : ∀ (n : Nat)  (σ : Hp), X9_both_c13 rec l0 l1 k33 n  σ = some q → J γ (mX9_both d) (σ0, fxR q.1, q.2) σ 13 [(0, 1, va_rf l0), (1, 1, .int l1)] [] := by
  intro n
  induction n with
  | zero => intro  σ h; exact nomatch (show none = some q from h)
  | succ n ih =>
    intro  σ h
    rw [X9_both_c13] at h
    refine J_aload_n (i := 0) 0 14 dX9_both_13 rfl rfl rfl ?_
    refine J_ldcS (k := 118) (tx := "and") (show (118, "MissCurves$Reader", 100, "and") ∈ strl by decide) 16 dX9_both_14 rfl ?_
    obtain ⟨b2, hb2, h⟩ := some_of_bind h
    obtain ⟨q1, hq1, h⟩ := some_of_bind h
    refine J_cWi 19 dX9_both_16 rfl ykX9_accept (Or.inl q1232) q1233 (show (7) + 1 ≤ 48 + 3 * d + 2 by omega) cs_nil (by decide) [va_rf (hst σ 118)] (RC.two hb2 (by decide) (by decide) rfl rfl q1235 q1236) rfl rfl (sX9_accept hγ l0 (hst σ 118) σ q1 hq1) ?_
    refine J_if_eq 33 22 dX9_both_19 (by decide) rfl (fun c3 => ?_) (fun c3 => ?_)
    · rw [if_pos c3] at h
      exact hk33  q1.2 h
    · rw [if_neg c3] at h
      refine J_aload_n (i := 0) 0 23 dX9_both_22 rfl rfl rfl ?_
      refine J_aload_n (i := 0) 0 24 dX9_both_23 rfl rfl rfl ?_
      obtain ⟨b5, hb5, h⟩ := some_of_bind h
      obtain ⟨q4, hq4, h⟩ := some_of_bind h
      rcases bT_of h with ⟨a7, ha7, ht, hq⟩ | ⟨w6, hw6, h⟩
      · exact J_cWT dX9_both_24 (ykX9_plain d) (Or.inl q1339) q1341 (show (48 + 3 * d + 1) + 1 ≤ 48 + 3 * d + 2 by omega) (cs_rf cs_nil) (by decide) [] (RC.two hb5 (by decide) (by decide) rfl rfl qp12 qp21) rfl rfl (by have hx := sX9_plain hγ rec hrec l0  q1.2 q4 hq4; rw [ha7] at hx; exact hx) (JT_out rfl ht (thrR hq))
      · refine J_cWr 27 dX9_both_24 rfl (ykX9_plain d) (Or.inl q1339) q1341 (show (48 + 3 * d + 1) + 1 ≤ 48 + 3 * d + 2 by omega) (cs_rf cs_nil) (by decide) [] (RC.two hb5 (by decide) (by decide) rfl rfl qp12 qp21) rfl rfl (by have hx := sX9_plain hγ rec hrec l0  q1.2 q4 hq4; rw [hw6] at hx; exact hx) ?_
        obtain ⟨b9, hb9, h⟩ := some_of_bind h
        obtain ⟨q8, hq8, h⟩ := some_of_bind h
        refine J_cWv 30 dX9_both_27 rfl ykX9_add (Or.inl q1379) q1381 (show (0) + 1 ≤ 48 + 3 * d + 2 by omega) cs_nil (by decide) [va_rf w6] (RC.two hb9 (by decide) (by decide) rfl rfl qp13 qp22) rfl rfl (sX9_add hγ l0 w6 q4.2 q8 hq8) ?_
        refine J_goto 13 dX9_both_30 (by decide) ?_
        exact ih  q8 h
def X9_both (rec : Option Nat → Hp → Option ((Nat ⊕ Option Nat) × Hp)) (l0 : Option Nat) (σ : Hp) : Option ((Nat ⊕ Option Nat) × Hp) :=
  (gI σ l0 [10, 23] 4).bind fun v1 =>
  (cT2 σ l0 10 23).bind fun b3 =>
  (X9_plain rec l0  σ).bind fun q2 =>
  bT q2 fun w4 =>
  (cT2 q2.2 l0 10 23).bind fun b7 =>
  (X9_add l0 w4 q2.2).bind fun q6 =>
  X9_both_c13 rec l0 v1 (fun τ8 =>
    (cT2 τ8 l0 10 23).bind fun b10 =>
    (X9_joined l0 (1 : Int32) v1 τ8).bind fun q9 =>
    some (Sum.inr q9.1, q9.2)) FUEL  q6
set_option maxHeartbeats 4000000 in
theorem sX9_both {γ : GP} (hγ : GOK γ) {d : Nat} (rec : Option Nat → Hp → Option ((Nat ⊕ Option Nat) × Hp)) (hrec : ∀ (x0 : Option Nat) (σ : Hp) (q : ((Nat ⊕ Option Nat) × Hp)), rec x0 σ = some q → Rn γ (mX9_test d) yX9_test [va_rf x0] (σ, fxR q.1, q.2)) (l0 : Option Nat) (σ : Hp) (q : ((Nat ⊕ Option Nat) × Hp)) (h : X9_both rec l0 σ = some q) : Rn γ (mX9_both d) yX9_both [va_rf l0] (σ, fxR q.1, q.2) := by
  refine J_mX hγ (ykX9_both d) rfl [(1, va_rf l0)] (cats_r cats_nil) (Nat.le_of_ble_eq_true rfl) ?_
  show J γ (mX9_both d) _ σ 0 [(0, 1, va_rf l0)] []
  unfold X9_both at h
  refine J_aload_n (i := 0) 0 1 dX9_both_0 rfl rfl rfl ?_
  obtain ⟨v1, hv1, h⟩ := some_of_bind h
  refine J_gI 4 dX9_both_1 rfl fk_r_333 hv1 ?_
  refine J_istore_n (i := 1) 5 [(1, 1, .int v1), (0, 1, va_rf l0)] dX9_both_4 rfl rfl (Nat.le_of_ble_eq_true rfl) rfl ?_
  refine J_aload_n (i := 0) 1 6 dX9_both_5 rfl rfl rfl ?_
  refine J_aload_n (i := 0) 1 7 dX9_both_6 rfl rfl rfl ?_
  obtain ⟨b3, hb3, h⟩ := some_of_bind h
  obtain ⟨q2, hq2, h⟩ := some_of_bind h
  rcases bT_of h with ⟨a5, ha5, ht, hq⟩ | ⟨w4, hw4, h⟩
  · exact J_cWT dX9_both_7 (ykX9_plain d) (Or.inl q1339) q1341 (show (48 + 3 * d + 1) + 1 ≤ 48 + 3 * d + 2 by omega) (cs_rf cs_nil) (by decide) [] (RC.two hb3 (by decide) (by decide) rfl rfl qp12 qp21) rfl rfl (by have hx := sX9_plain hγ rec hrec l0  σ q2 hq2; rw [ha5] at hx; exact hx) (JT_out rfl ht (thrR hq))
  · refine J_cWr 10 dX9_both_7 rfl (ykX9_plain d) (Or.inl q1339) q1341 (show (48 + 3 * d + 1) + 1 ≤ 48 + 3 * d + 2 by omega) (cs_rf cs_nil) (by decide) [] (RC.two hb3 (by decide) (by decide) rfl rfl qp12 qp21) rfl rfl (by have hx := sX9_plain hγ rec hrec l0  σ q2 hq2; rw [hw4] at hx; exact hx) ?_
    obtain ⟨b7, hb7, h⟩ := some_of_bind h
    obtain ⟨q6, hq6, h⟩ := some_of_bind h
    refine J_cWv 13 dX9_both_10 rfl ykX9_add (Or.inl q1379) q1381 (show (0) + 1 ≤ 48 + 3 * d + 2 by omega) cs_nil (by decide) [va_rf w4] (RC.two hb7 (by decide) (by decide) rfl rfl qp13 qp22) rfl rfl (sX9_add hγ l0 w4 q2.2 q6 hq6) ?_
    refine J.pick [1, 0] rfl ?_
    refine jX9_both_c13 hγ rec hrec l0 v1 (fun τ8 h => ?_) FUEL  q6 h
    · refine J_aload_n (i := 0) 0 34 dX9_both_33 rfl rfl rfl ?_
      refine J_ic 35 dX9_both_34 rfl (1 : Int32) kic_1 ?_
      refine J_iload_n (i := 1) 1 36 dX9_both_35 rfl rfl rfl ?_
      obtain ⟨b10, hb10, h⟩ := some_of_bind h
      obtain ⟨q9, hq9, h⟩ := some_of_bind h
      refine J_cWr 39 dX9_both_36 rfl ykX9_joined (Or.inl q1384) q1386 (show (3) + 1 ≤ 48 + 3 * d + 2 by omega) cs_nil (by decide) [.int (1 : Int32), .int v1] (RC.two hb10 (by decide) (by decide) rfl rfl qp14 qp23) rfl rfl (sX9_joined hγ l0 (1 : Int32) v1 τ8 q9 hq9) ?_
      exact J_aret rfl (Or.inl ⟨_, rfl⟩) dX9_both_39 (retRX h)
def X9_test_c13 (rec : Option Nat → Hp → Option ((Nat ⊕ Option Nat) × Hp)) (l0 : Option Nat) (l1 : Int32) (k33 : Hp → Option ((Nat ⊕ Option Nat) × Hp)) : Nat → Hp → Option ((Nat ⊕ Option Nat) × Hp)
  | 0, _ => none
  | n + 1, σ =>
    (cT2 σ l0 10 23).bind fun b2 =>
    (X9_accept l0 (hst σ 139) σ).bind fun q1 =>
    if q1.1 = 0 then
      k33  q1.2
    else
      (cT2 q1.2 l0 10 23).bind fun b5 =>
      (X9_both rec l0  q1.2).bind fun q4 =>
      bT q4 fun w6 =>
      (cT2 q4.2 l0 10 23).bind fun b9 =>
      (X9_add l0 w6 q4.2).bind fun q8 =>
      X9_test_c13 rec l0 l1 k33 n  q8
set_option maxHeartbeats 4000000 in
theorem jX9_test_c13 {γ : GP} {σ0 : Hp} {q : ((Nat ⊕ Option Nat) × Hp)} (hγ : GOK γ) {d : Nat} (rec : Option Nat → Hp → Option ((Nat ⊕ Option Nat) × Hp)) (hrec : ∀ (x0 : Option Nat) (σ : Hp) (q : ((Nat ⊕ Option Nat) × Hp)), rec x0 σ = some q → Rn γ (mX9_test d) yX9_test [va_rf x0] (σ, fxR q.1, q.2)) (l0 : Option Nat) (l1 : Int32) {k33 : Hp → Option ((Nat ⊕ Option Nat) × Hp)} (hk33 : ∀  (σ : Hp), k33  σ = some q → J γ (mX9_test (d + 1)) (σ0, fxR q.1, q.2) σ 33 [(0, 1, va_rf l0), (1, 1, .int l1)] []) : ∀ (n : Nat)  (σ : Hp), X9_test_c13 rec l0 l1 k33 n  σ = some q → J γ (mX9_test (d + 1)) (σ0, fxR q.1, q.2) σ 13 [(0, 1, va_rf l0), (1, 1, .int l1)] [] := by
  intro n
  induction n with
  | zero => intro  σ h; exact nomatch (show none = some q from h)
  | succ n ih =>
    intro  σ h
    rw [X9_test_c13] at h
    refine J_aload_n (i := 0) 0 14 dX9_test_13 rfl rfl rfl ?_
    refine J_ldcS (k := 139) (tx := "or") (show (139, "MissCurves$Reader", 91, "or") ∈ strl by decide) 16 dX9_test_14 rfl ?_
    obtain ⟨b2, hb2, h⟩ := some_of_bind h
    obtain ⟨q1, hq1, h⟩ := some_of_bind h
    refine J_cWi 19 dX9_test_16 rfl ykX9_accept (Or.inl q1232) q1233 (show (7) + 1 ≤ 48 + 3 * (d + 1) by omega) cs_nil (by decide) [va_rf (hst σ 139)] (RC.two hb2 (by decide) (by decide) rfl rfl q1235 q1236) rfl rfl (sX9_accept hγ l0 (hst σ 139) σ q1 hq1) ?_
    refine J_if_eq 33 22 dX9_test_19 (by decide) rfl (fun c3 => ?_) (fun c3 => ?_)
    · rw [if_pos c3] at h
      exact hk33  q1.2 h
    · rw [if_neg c3] at h
      refine J_aload_n (i := 0) 0 23 dX9_test_22 rfl rfl rfl ?_
      refine J_aload_n (i := 0) 0 24 dX9_test_23 rfl rfl rfl ?_
      obtain ⟨b5, hb5, h⟩ := some_of_bind h
      obtain ⟨q4, hq4, h⟩ := some_of_bind h
      rcases bT_of h with ⟨a7, ha7, ht, hq⟩ | ⟨w6, hw6, h⟩
      · exact J_cWT dX9_test_24 (ykX9_both d) (Or.inl q1335) q1337 (show (48 + 3 * d + 2) + 1 ≤ 48 + 3 * (d + 1) by omega) (cs_rf cs_nil) (by decide) [] (RC.two hb5 (by decide) (by decide) rfl rfl qp11 qp20) rfl rfl (by have hx := sX9_both hγ rec hrec l0  q1.2 q4 hq4; rw [ha7] at hx; exact hx) (JT_out rfl ht (thrR hq))
      · refine J_cWr 27 dX9_test_24 rfl (ykX9_both d) (Or.inl q1335) q1337 (show (48 + 3 * d + 2) + 1 ≤ 48 + 3 * (d + 1) by omega) (cs_rf cs_nil) (by decide) [] (RC.two hb5 (by decide) (by decide) rfl rfl qp11 qp20) rfl rfl (by have hx := sX9_both hγ rec hrec l0  q1.2 q4 hq4; rw [hw6] at hx; exact hx) ?_
        obtain ⟨b9, hb9, h⟩ := some_of_bind h
        obtain ⟨q8, hq8, h⟩ := some_of_bind h
        refine J_cWv 30 dX9_test_27 rfl ykX9_add (Or.inl q1379) q1381 (show (0) + 1 ≤ 48 + 3 * (d + 1) by omega) cs_nil (by decide) [va_rf w6] (RC.two hb9 (by decide) (by decide) rfl rfl qp13 qp22) rfl rfl (sX9_add hγ l0 w6 q4.2 q8 hq8) ?_
        refine J_goto 13 dX9_test_30 (by decide) ?_
        exact ih  q8 h
def X9_test_b (rec : Option Nat → Hp → Option ((Nat ⊕ Option Nat) × Hp)) (l0 : Option Nat) (σ : Hp) : Option ((Nat ⊕ Option Nat) × Hp) :=
  (gI σ l0 [10, 23] 4).bind fun v1 =>
  (cT2 σ l0 10 23).bind fun b3 =>
  (X9_both rec l0  σ).bind fun q2 =>
  bT q2 fun w4 =>
  (cT2 q2.2 l0 10 23).bind fun b7 =>
  (X9_add l0 w4 q2.2).bind fun q6 =>
  X9_test_c13 rec l0 v1 (fun τ8 =>
    (cT2 τ8 l0 10 23).bind fun b10 =>
    (X9_joined l0 (0 : Int32) v1 τ8).bind fun q9 =>
    some (Sum.inr q9.1, q9.2)) FUEL  q6
set_option maxHeartbeats 4000000 in
theorem sX9_test_b {γ : GP} (hγ : GOK γ) {d : Nat} (rec : Option Nat → Hp → Option ((Nat ⊕ Option Nat) × Hp)) (hrec : ∀ (x0 : Option Nat) (σ : Hp) (q : ((Nat ⊕ Option Nat) × Hp)), rec x0 σ = some q → Rn γ (mX9_test d) yX9_test [va_rf x0] (σ, fxR q.1, q.2)) (l0 : Option Nat) (σ : Hp) (q : ((Nat ⊕ Option Nat) × Hp)) (h : X9_test_b rec l0 σ = some q) : Rn γ (mX9_test (d + 1)) yX9_test [va_rf l0] (σ, fxR q.1, q.2) := by
  refine J_mX hγ (ykX9_test (d + 1)) rfl [(1, va_rf l0)] (cats_r cats_nil) (Nat.le_of_ble_eq_true rfl) ?_
  show J γ (mX9_test (d + 1)) _ σ 0 [(0, 1, va_rf l0)] []
  unfold X9_test_b at h
  refine J_aload_n (i := 0) 0 1 dX9_test_0 rfl rfl rfl ?_
  obtain ⟨v1, hv1, h⟩ := some_of_bind h
  refine J_gI 4 dX9_test_1 rfl fk_r_333 hv1 ?_
  refine J_istore_n (i := 1) 5 [(1, 1, .int v1), (0, 1, va_rf l0)] dX9_test_4 rfl rfl (Nat.le_of_ble_eq_true rfl) rfl ?_
  refine J_aload_n (i := 0) 1 6 dX9_test_5 rfl rfl rfl ?_
  refine J_aload_n (i := 0) 1 7 dX9_test_6 rfl rfl rfl ?_
  obtain ⟨b3, hb3, h⟩ := some_of_bind h
  obtain ⟨q2, hq2, h⟩ := some_of_bind h
  rcases bT_of h with ⟨a5, ha5, ht, hq⟩ | ⟨w4, hw4, h⟩
  · exact J_cWT dX9_test_7 (ykX9_both d) (Or.inl q1335) q1337 (show (48 + 3 * d + 2) + 1 ≤ 48 + 3 * (d + 1) by omega) (cs_rf cs_nil) (by decide) [] (RC.two hb3 (by decide) (by decide) rfl rfl qp11 qp20) rfl rfl (by have hx := sX9_both hγ rec hrec l0  σ q2 hq2; rw [ha5] at hx; exact hx) (JT_out rfl ht (thrR hq))
  · refine J_cWr 10 dX9_test_7 rfl (ykX9_both d) (Or.inl q1335) q1337 (show (48 + 3 * d + 2) + 1 ≤ 48 + 3 * (d + 1) by omega) (cs_rf cs_nil) (by decide) [] (RC.two hb3 (by decide) (by decide) rfl rfl qp11 qp20) rfl rfl (by have hx := sX9_both hγ rec hrec l0  σ q2 hq2; rw [hw4] at hx; exact hx) ?_
    obtain ⟨b7, hb7, h⟩ := some_of_bind h
    obtain ⟨q6, hq6, h⟩ := some_of_bind h
    refine J_cWv 13 dX9_test_10 rfl ykX9_add (Or.inl q1379) q1381 (show (0) + 1 ≤ 48 + 3 * (d + 1) by omega) cs_nil (by decide) [va_rf w4] (RC.two hb7 (by decide) (by decide) rfl rfl qp13 qp22) rfl rfl (sX9_add hγ l0 w4 q2.2 q6 hq6) ?_
    refine J.pick [1, 0] rfl ?_
    refine jX9_test_c13 hγ rec hrec l0 v1 (fun τ8 h => ?_) FUEL  q6 h
    · refine J_aload_n (i := 0) 0 34 dX9_test_33 rfl rfl rfl ?_
      refine J_ic 35 dX9_test_34 rfl (0 : Int32) kic_0 ?_
      refine J_iload_n (i := 1) 1 36 dX9_test_35 rfl rfl rfl ?_
      obtain ⟨b10, hb10, h⟩ := some_of_bind h
      obtain ⟨q9, hq9, h⟩ := some_of_bind h
      refine J_cWr 39 dX9_test_36 rfl ykX9_joined (Or.inl q1384) q1386 (show (3) + 1 ≤ 48 + 3 * (d + 1) by omega) cs_nil (by decide) [.int (0 : Int32), .int v1] (RC.two hb10 (by decide) (by decide) rfl rfl qp14 qp23) rfl rfl (sX9_joined hγ l0 (0 : Int32) v1 τ8 q9 hq9) ?_
      exact J_aret rfl (Or.inl ⟨_, rfl⟩) dX9_test_39 (retRX h)
def X9_test : Nat → Option Nat → Hp → Option ((Nat ⊕ Option Nat) × Hp)
  | 0, _, _ => none
  | d + 1, x0, σ => X9_test_b (X9_test d) x0 σ
theorem sX9_test {γ : GP} (hγ : GOK γ) : ∀ (d : Nat) (x0 : Option Nat) (σ : Hp) (q : ((Nat ⊕ Option Nat) × Hp)), X9_test d x0 σ = some q → Rn γ (mX9_test d) yX9_test [va_rf x0] (σ, fxR q.1, q.2) := by
  intro d
  induction d with
  | zero => intro x0 σ q h; exact nomatch (show none = some q from h)
  | succ d ih => intro x0 σ q h; exact sX9_test_b (d := d) hγ (X9_test d) ih x0 σ q h
abbrev mX17_init : MP := (cX17_init, "MissCurves$Clause", 4, (Option.none : Option FieldType), 1, "<init>", [])
theorem ykX17_init : YK yX17_init mX17_init 3 := ⟨q1405, q164, ⟨by decide, by decide⟩, by decide +kernel, Nat.le_of_ble_eq_true rfl, by decide, rfl, rfl⟩
theorem pk_r_351 : POK "MissCurves$Clause" "<init>" 7 [17] 0 .int := POK.one (by decide) rfl (Nat.le_of_ble_eq_true rfl) (Or.inl ⟨_, q1407, Or.inl rfl⟩) rfl (by decide +kernel) (Or.inr ⟨rfl, rfl, rfl, _, q1407, Or.inl rfl⟩)
theorem pk_r_352 : POK "MissCurves$Clause" "<init>" 13 [17] 1 (.object "MissCurves$Sum") := POK.one (by decide) rfl (Nat.le_of_ble_eq_true rfl) (Or.inl ⟨_, q1409, Or.inl rfl⟩) rfl (by decide +kernel) (Or.inr ⟨rfl, rfl, rfl, _, q1409, Or.inl rfl⟩)
theorem pk_r_353 : POK "MissCurves$Clause" "<init>" 17 [17] 2 (.object "MissCurves$Test") := POK.one (by decide) rfl (Nat.le_of_ble_eq_true rfl) (Or.inl ⟨_, q1410, Or.inl rfl⟩) rfl (by decide +kernel) (Or.inr ⟨rfl, rfl, rfl, _, q1410, Or.inl rfl⟩)
def X17_init (l0 : Option Nat) (l1 : Int32) (l2 : Option Nat) (l3 : Option Nat) (σ : Hp) : Option Hp :=
  l0.bind fun b1 =>
  (pI σ l0 [17] 0 l1).bind fun σ2 =>
  (pR σ2 l0 [17] 1 l2).bind fun σ3 =>
  (pR σ3 l0 [17] 2 l3).bind fun σ4 =>
  some σ4
set_option maxHeartbeats 4000000 in
theorem sX17_init {γ : GP} (hγ : GOK γ) (l0 : Option Nat) (l1 : Int32) (l2 : Option Nat) (l3 : Option Nat) (σ : Hp) (q : Hp) (h : X17_init l0 l1 l2 l3 σ = some q) : Rn γ mX17_init yX17_init [va_rf l0, .int l1, va_rf l2, va_rf l3] (σ, .inr none, q) := by
  refine J_m hγ ykX17_init rfl [(1, va_rf l0), (1, .int l1), (1, va_rf l2), (1, va_rf l3)] (cats_r (cats_i (cats_r (cats_r cats_nil)))) (Nat.le_of_ble_eq_true rfl) ?_
  show J γ mX17_init _ σ 0 [(0, 1, va_rf l0), (1, 1, .int l1), (2, 1, va_rf l2), (3, 1, va_rf l3)] []
  unfold X17_init at h
  refine J_aload_n (i := 0) 0 1 dX17_init_0 rfl rfl rfl ?_
  obtain ⟨b1, hb1, h⟩ := some_of_bind h
  refine J_oI hb1 q1406 (Nat.le_of_ble_eq_true rfl) cs_nil (by decide) 4 dX17_init_1 rfl ?_
  refine J_aload_n (i := 0) 0 5 dX17_init_4 rfl rfl rfl ?_
  refine J_iload_n (i := 1) 1 6 dX17_init_5 rfl rfl rfl ?_
  obtain ⟨σ2, hσ2, h⟩ := some_of_bind h
  refine J_pI 9 dX17_init_6 rfl pk_r_351 hσ2 ?_
  refine J_aload_n (i := 0) 0 10 dX17_init_9 rfl rfl rfl ?_
  refine J_aload_n (i := 2) 2 11 dX17_init_10 rfl rfl rfl ?_
  obtain ⟨σ3, hσ3, h⟩ := some_of_bind h
  refine J_pR rfl 14 dX17_init_11 rfl pk_r_352 hσ3 ?_
  refine J_aload_n (i := 0) 0 15 dX17_init_14 rfl rfl rfl ?_
  refine J_aload_n (i := 3) 3 16 dX17_init_15 rfl rfl rfl ?_
  obtain ⟨σ4, hσ4, h⟩ := some_of_bind h
  refine J_pR rfl 19 dX17_init_16 rfl pk_r_353 hσ4 ?_
  exact J_vret rfl dX17_init_19 (retV h)
abbrev mX10_read_2 : MP := (cX10_read_2, "MissCurves$LawReader", 4, (Option.none : Option FieldType), 85, "read", [])
theorem ykX10_read_2 : YK yX10_read_2 mX10_read_2 1 := ⟨q1167, q157, ⟨by decide, by decide⟩, by decide +kernel, Nat.le_of_ble_eq_true rfl, by decide, rfl, rfl⟩
theorem fk_r_354 : FOK "MissCurves$LawReader" 31 [10] 8 isR := FOK.one (by decide) rfl (Nat.le_of_ble_eq_true rfl) (Or.inl ⟨_, q1072, Or.inl rfl⟩) rfl
theorem fk_r_355 : FOK "MissCurves$LawReader" 39 [10] 9 isR := FOK.one (by decide) rfl (Nat.le_of_ble_eq_true rfl) (Or.inl ⟨_, q1073, Or.inl rfl⟩) rfl
def X10_read_2_c69   (s0 : Option Nat) (s1 : Int32) (s2 : Option Nat) (s3 : Option Nat) (s4 : Int32) (s5 : Option Nat) (s6 : Option Nat) (σ : Hp) : Option ((Nat ⊕ Unit) × Hp) :=
  s3.bind fun b2 =>
  (X17_init s3 s4 s5 s6 σ).bind fun q1 =>
  (sR 10 q1 s0 s1 s2).bind fun σ3 =>
  some (Sum.inr (), σ3)
set_option maxHeartbeats 4000000 in
theorem jX10_read_2_c69 {γ : GP} {σ0 : Hp} {q : ((Nat ⊕ Unit) × Hp)} (hγ : GOK γ)   (s0 : Option Nat) (s1 : Int32) (s2 : Option Nat) (s3 : Option Nat) (s4 : Int32) (s5 : Option Nat) (s6 : Option Nat) (σ : Hp) (h : X10_read_2_c69 s0 s1 s2 s3 s4 s5 s6 σ = some q) : J γ mX10_read_2 (σ0, fxV q.1, q.2) σ 69 [] [va_rf s6, va_rf s5, .int s4, va_rf s3, va_rf s2, .int s1, va_rf s0] := by
  unfold X10_read_2_c69 at h
  obtain ⟨b2, hb2, h⟩ := some_of_bind h
  obtain ⟨q1, hq1, h⟩ := some_of_bind h
  refine J_cI 72 dX10_read_2_69 rfl ykX17_init rfl (Or.inl q1403) q1404 rfl (Nat.le_of_ble_eq_true rfl) (cs_rf (cs_int (cs_rf cs_nil))) (by decide) [.int s4, va_rf s5, va_rf s6] hb2 rfl rfl (sX17_init hγ s3 s4 s5 s6 σ q1 hq1) ?_
  obtain ⟨σ3, hσ3, h⟩ := some_of_bind h
  refine J_aast 10 (by decide) (by decide) 73 dX10_read_2_72 rfl hσ3 ?_
  exact J_vret rfl dX10_read_2_73 (retVX h)
def X10_read_2_c40  (l0 : Option Nat) (l1 : Int32) (l2 : Int32) (s0 : Option Nat) (σ : Hp) : Option ((Nat ⊕ Unit) × Hp) :=
  (gR σ l0 [10] 8).bind fun v1 =>
  (cT (wN σ 17 0 4) l0 10).bind fun b3 =>
  (X9_accept l0 (hst (wN σ 17 0 4) 128) (wN σ 17 0 4)).bind fun q2 =>
  if q2.1 = 0 then
    X10_read_2_c69   v1 l1 (some (hsz σ)) (some (hsz σ)) l2 s0 none q2.2
  else
    (cT q2.2 l0 10).bind fun b6 =>
    (X9_test 12 l0  q2.2).bind fun q5 =>
    bT q5 fun w7 =>
    X10_read_2_c69   v1 l1 (some (hsz σ)) (some (hsz σ)) l2 s0 w7 q5.2
set_option maxHeartbeats 4000000 in
theorem jX10_read_2_c40 {γ : GP} {σ0 : Hp} {q : ((Nat ⊕ Unit) × Hp)} (hγ : GOK γ) (l0 : Option Nat) (l1 : Int32) (l2 : Int32)  (s0 : Option Nat) (σ : Hp) (h : X10_read_2_c40 l0 l1 l2 s0 σ = some q) : J γ mX10_read_2 (σ0, fxV q.1, q.2) σ 40 [(0, 1, va_rf l0), (1, 1, .int l1), (2, 1, .int l2)] [va_rf s0] := by
  unfold X10_read_2_c40 at h
  refine J_astore_n (i := 3) 41 [(3, 1, va_rf s0), (0, 1, va_rf l0), (1, 1, .int l1), (2, 1, .int l2)] dX10_read_2_40 rfl rfl (Nat.le_of_ble_eq_true rfl) rfl ?_
  refine J_aload_n (i := 0) 1 42 dX10_read_2_41 rfl rfl rfl ?_
  obtain ⟨v1, hv1, h⟩ := some_of_bind h
  refine J_gR 45 dX10_read_2_42 rfl fk_r_354 hv1 ?_
  refine J_iload_n (i := 1) 2 46 dX10_read_2_45 rfl rfl rfl ?_
  refine J_new (c9 := 17) (nsl := 4) rfl (by decide) (by decide +kernel) q1069 q1323 q164 49 dX10_read_2_46 rfl ?_
  refine J_dupr 50 dX10_read_2_49 rfl ?_
  refine J_iload_n (i := 2) 3 51 dX10_read_2_50 rfl rfl rfl ?_
  refine J_aload_n (i := 3) 0 52 dX10_read_2_51 rfl rfl rfl ?_
  refine J_aload_n (i := 0) 1 53 dX10_read_2_52 rfl rfl rfl ?_
  refine J_ldcS (k := 128) (tx := "if") (show (128, "MissCurves$LawReader", 74, "if") ∈ strl by decide) 55 dX10_read_2_53 rfl ?_
  obtain ⟨b3, hb3, h⟩ := some_of_bind h
  obtain ⟨q2, hq2, h⟩ := some_of_bind h
  refine J_cUi (na := 1) (D := 7) 58 dX10_read_2_55 rfl q1325 q1326 q1327 ⟨by decide, by decide, by decide +kernel⟩ (Nat.le_of_ble_eq_true rfl) (cs_rf (cs_int (cs_rf (cs_rf (cs_int (cs_rf cs_nil)))))) (by decide) [va_rf (hst (wN σ 17 0 4) 128)] rfl rfl (UR.of (c9 := 10) hb3 (by decide) rfl ykX9_accept q1328 q1233 (Nat.le_refl _) (sX9_accept hγ l0 (hst (wN σ 17 0 4) 128) (wN σ 17 0 4) q2 hq2)) ?_
  refine J_if_eq 68 61 dX10_read_2_58 (by decide) rfl (fun c4 => ?_) (fun c4 => ?_)
  · rw [if_pos c4] at h
    refine J_null 69 dX10_read_2_68 rfl ?_
    refine J.pick [] rfl ?_
    exact jX10_read_2_c69 hγ  v1 l1 (some (hsz σ)) (some (hsz σ)) l2 s0 none q2.2 h
  · rw [if_neg c4] at h
    refine J_aload_n (i := 0) 1 62 dX10_read_2_61 rfl rfl rfl ?_
    obtain ⟨b6, hb6, h⟩ := some_of_bind h
    obtain ⟨q5, hq5, h⟩ := some_of_bind h
    rcases bT_of h with ⟨a8, ha8, ht, hq⟩ | ⟨w7, hw7, h⟩
    · exact J_cUT (na := 0) (D := 84) dX10_read_2_62 q1329 q1330 q1331 ⟨by decide, by decide, by decide +kernel⟩ (Nat.le_of_ble_eq_true rfl) (cs_rf (cs_int (cs_rf (cs_rf (cs_int (cs_rf cs_nil)))))) (by decide) [] rfl rfl (UR.of (c9 := 10) hb6 (by decide) rfl (ykX9_test 12) q1332 q1333 (Nat.le_refl _) (by have hx := sX9_test hγ 12 l0  q2.2 q5 hq5; rw [ha8] at hx; exact hx)) (JT_out rfl ht (thrV hq))
    · refine J_cUr (na := 0) (D := 84) 65 dX10_read_2_62 rfl q1329 q1330 q1331 ⟨by decide, by decide, by decide +kernel⟩ (Nat.le_of_ble_eq_true rfl) (cs_rf (cs_int (cs_rf (cs_rf (cs_int (cs_rf cs_nil)))))) (by decide) [] rfl rfl (UR.of (c9 := 10) hb6 (by decide) rfl (ykX9_test 12) q1332 q1333 (Nat.le_refl _) (by have hx := sX9_test hγ 12 l0  q2.2 q5 hq5; rw [hw7] at hx; exact hx)) ?_
      refine J_goto 69 dX10_read_2_65 (by decide) ?_
      refine J.pick [] rfl ?_
      exact jX10_read_2_c69 hγ  v1 l1 (some (hsz σ)) (some (hsz σ)) l2 s0 w7 q5.2 h
def X10_read_2_c20  (l0 : Option Nat) (l1 : Int32) (l2 : Int32) (s0 : Option Nat) (s1 : Int32) (σ : Hp) : Option ((Nat ⊕ Unit) × Hp) :=
  (cT σ s0 10).bind fun b2 =>
  (X9_must s0 s1 σ).bind fun q1 =>
  bT q1 fun w3 =>
  (cT q1.2 l0 10).bind fun b6 =>
  (X9_next l0  q1.2).bind fun q5 =>
  if (1 : Int32) ≤ l2 then
    X10_read_2_c40  l0 l1 l2 none q5
  else
    (cT q5 l0 10).bind fun b9 =>
    (X9_sum 12 l0  q5).bind fun q8 =>
    bT q8 fun w10 =>
    X10_read_2_c40  l0 l1 l2 w10 q8.2
set_option maxHeartbeats 4000000 in
theorem jX10_read_2_c20 {γ : GP} {σ0 : Hp} {q : ((Nat ⊕ Unit) × Hp)} (hγ : GOK γ) (l0 : Option Nat) (l1 : Int32) (l2 : Int32)  (s0 : Option Nat) (s1 : Int32) (σ : Hp) (h : X10_read_2_c20 l0 l1 l2 s0 s1 σ = some q) : J γ mX10_read_2 (σ0, fxV q.1, q.2) σ 20 [(0, 1, va_rf l0), (1, 1, .int l1), (2, 1, .int l2)] [.int s1, va_rf s0] := by
  unfold X10_read_2_c20 at h
  obtain ⟨b2, hb2, h⟩ := some_of_bind h
  obtain ⟨q1, hq1, h⟩ := some_of_bind h
  rcases bT_of h with ⟨a4, ha4, ht, hq⟩ | ⟨w3, hw3, h⟩
  · exact J_cUT (na := 1) (D := 4) dX10_read_2_20 q1199 q1200 q1201 ⟨by decide, by decide, by decide +kernel⟩ (Nat.le_of_ble_eq_true rfl) cs_nil (by decide) [.int s1] rfl rfl (UR.of (c9 := 10) hb2 (by decide) rfl ykX9_must q1202 q1133 (Nat.le_refl _) (by have hx := sX9_must hγ s0 s1 σ q1 hq1; rw [ha4] at hx; exact hx)) (JT_out rfl ht (thrV hq))
  · refine J_cUv (na := 1) (D := 4) 23 dX10_read_2_20 rfl q1199 q1200 q1201 ⟨by decide, by decide, by decide +kernel⟩ (Nat.le_of_ble_eq_true rfl) cs_nil (by decide) [.int s1] rfl rfl (UR.of (c9 := 10) hb2 (by decide) rfl ykX9_must q1202 q1133 (Nat.le_refl _) (by have hx := sX9_must hγ s0 s1 σ q1 hq1; rw [hw3] at hx; exact hx)) ?_
    refine J_aload_n (i := 0) 0 24 dX10_read_2_23 rfl rfl rfl ?_
    obtain ⟨b6, hb6, h⟩ := some_of_bind h
    obtain ⟨q5, hq5, h⟩ := some_of_bind h
    refine J_cUv (na := 0) (D := 1) 27 dX10_read_2_24 rfl q1203 q1204 q1205 ⟨by decide, by decide, by decide +kernel⟩ (Nat.le_of_ble_eq_true rfl) cs_nil (by decide) [] rfl rfl (UR.of (c9 := 10) hb6 (by decide) rfl ykX9_next q1206 q1121 (Nat.le_refl _) (sX9_next hγ l0  q1.2 q5 hq5)) ?_
    refine J_iload_n (i := 2) 2 28 dX10_read_2_27 rfl rfl rfl ?_
    refine J_ic 29 dX10_read_2_28 rfl (1 : Int32) kic_1 ?_
    refine J_icmp_ge 39 32 dX10_read_2_29 (by decide) rfl (fun c7 => ?_) (fun c7 => ?_)
    · rw [if_pos c7] at h
      refine J_null 40 dX10_read_2_39 rfl ?_
      exact jX10_read_2_c40 hγ l0 l1 l2 none q5 h
    · rw [if_neg c7] at h
      refine J_aload_n (i := 0) 0 33 dX10_read_2_32 rfl rfl rfl ?_
      obtain ⟨b9, hb9, h⟩ := some_of_bind h
      obtain ⟨q8, hq8, h⟩ := some_of_bind h
      rcases bT_of h with ⟨a11, ha11, ht, hq⟩ | ⟨w10, hw10, h⟩
      · exact J_cUT (na := 0) (D := 46) dX10_read_2_33 q1207 q1208 q1209 ⟨by decide, by decide, by decide +kernel⟩ (Nat.le_of_ble_eq_true rfl) cs_nil (by decide) [] rfl rfl (UR.of (c9 := 10) hb9 (by decide) rfl (ykX9_sum 12) q1210 q1211 (Nat.le_refl _) (by have hx := sX9_sum hγ 12 l0  q5 q8 hq8; rw [ha11] at hx; exact hx)) (JT_out rfl ht (thrV hq))
      · refine J_cUr (na := 0) (D := 46) 36 dX10_read_2_33 rfl q1207 q1208 q1209 ⟨by decide, by decide, by decide +kernel⟩ (Nat.le_of_ble_eq_true rfl) cs_nil (by decide) [] rfl rfl (UR.of (c9 := 10) hb9 (by decide) rfl (ykX9_sum 12) q1210 q1211 (Nat.le_refl _) (by have hx := sX9_sum hγ 12 l0  q5 q8 hq8; rw [hw10] at hx; exact hx)) ?_
        refine J_goto 40 dX10_read_2_36 (by decide) ?_
        exact jX10_read_2_c40 hγ l0 l1 l2 w10 q8.2 h
def X10_read_2 (l0 : Option Nat) (l1 : Int32) (σ : Hp) : Option ((Nat ⊕ Unit) × Hp) :=
  (gR σ l0 [10] 9).bind fun v1 =>
  (cT σ l0 10).bind fun b3 =>
  (X9_which l0 v1 σ).bind fun q2 =>
  if q2.1 = (-1 : Int32) then
    X10_read_2_c20  l0 l1 q2.1 l0 (0 : Int32) q2.2
  else
    X10_read_2_c20  l0 l1 q2.1 l0 (1 : Int32) q2.2
set_option maxHeartbeats 4000000 in
theorem sX10_read_2 {γ : GP} (hγ : GOK γ) (l0 : Option Nat) (l1 : Int32) (σ : Hp) (q : ((Nat ⊕ Unit) × Hp)) (h : X10_read_2 l0 l1 σ = some q) : Rn γ mX10_read_2 yX10_read_2 [va_rf l0, .int l1] (σ, fxV q.1, q.2) := by
  refine J_mX hγ ykX10_read_2 rfl [(1, va_rf l0), (1, .int l1)] (cats_r (cats_i cats_nil)) (Nat.le_of_ble_eq_true rfl) ?_
  show J γ mX10_read_2 _ σ 0 [(0, 1, va_rf l0), (1, 1, .int l1)] []
  unfold X10_read_2 at h
  refine J_aload_n (i := 0) 0 1 dX10_read_2_0 rfl rfl rfl ?_
  refine J_aload_n (i := 0) 0 2 dX10_read_2_1 rfl rfl rfl ?_
  obtain ⟨v1, hv1, h⟩ := some_of_bind h
  refine J_gR 5 dX10_read_2_2 rfl fk_r_355 hv1 ?_
  obtain ⟨b3, hb3, h⟩ := some_of_bind h
  obtain ⟨q2, hq2, h⟩ := some_of_bind h
  refine J_cUi (na := 1) (D := 7) 8 dX10_read_2_5 rfl q1168 q1169 q1170 ⟨by decide, by decide, by decide +kernel⟩ (Nat.le_of_ble_eq_true rfl) cs_nil (by decide) [va_rf v1] rfl rfl (UR.of (c9 := 10) hb3 (by decide) rfl ykX9_which q1171 q1172 (Nat.le_refl _) (sX9_which hγ l0 v1 σ q2 hq2)) ?_
  refine J_istore_n (i := 2) 9 [(2, 1, .int q2.1), (0, 1, va_rf l0), (1, 1, .int l1)] dX10_read_2_8 rfl rfl (Nat.le_of_ble_eq_true rfl) rfl ?_
  refine J_aload_n (i := 0) 1 10 dX10_read_2_9 rfl rfl rfl ?_
  refine J_iload_n (i := 2) 0 11 dX10_read_2_10 rfl rfl rfl ?_
  refine J_ic 12 dX10_read_2_11 rfl (-1 : Int32) kic_m1 ?_
  refine J_icmp_eq 19 15 dX10_read_2_12 (by decide) rfl (fun c4 => ?_) (fun c4 => ?_)
  · rw [if_pos c4] at h
    refine J_ic 20 dX10_read_2_19 rfl (0 : Int32) kic_0 ?_
    refine J.pick [1, 2, 0] rfl ?_
    exact jX10_read_2_c20 hγ l0 l1 q2.1 l0 (0 : Int32) q2.2 h
  · rw [if_neg c4] at h
    refine J_ic 16 dX10_read_2_15 rfl (1 : Int32) kic_1 ?_
    refine J_goto 20 dX10_read_2_16 (by decide) ?_
    refine J.pick [1, 2, 0] rfl ?_
    exact jX10_read_2_c20 hγ l0 l1 q2.1 l0 (1 : Int32) q2.2 h
abbrev mX22_init : MP := (cX22_init, "MissCurves$Act", 6, (Option.none : Option FieldType), 1, "<init>", [])
theorem ykX22_init : YK yX22_init mX22_init 5 := ⟨q1438, q169, ⟨by decide, by decide⟩, by decide +kernel, Nat.le_of_ble_eq_true rfl, by decide, rfl, rfl⟩
theorem pk_r_356 : POK "MissCurves$Act" "<init>" 3 [22] 7 (.object "MissCurves") := POK.one (by decide) rfl (Nat.le_of_ble_eq_true rfl) (Or.inl ⟨_, q1450, Or.inl rfl⟩) rfl (by decide +kernel) (Or.inr ⟨rfl, rfl, rfl, _, q1450, Or.inl rfl⟩)
theorem pk_r_357 {nm9 : String} : POK "MissCurves$Act" nm9 15 [22] 5 .int := POK.one (by decide) rfl (Nat.le_of_ble_eq_true rfl) (Or.inl ⟨_, q1446, Or.inl rfl⟩) rfl (by decide +kernel) (Or.inl rfl)
theorem pk_r_358 : POK "MissCurves$Act" "<init>" 19 [22] 0 .int := POK.one (by decide) rfl (Nat.le_of_ble_eq_true rfl) (Or.inl ⟨_, q1440, Or.inl rfl⟩) rfl (by decide +kernel) (Or.inr ⟨rfl, rfl, rfl, _, q1440, Or.inl rfl⟩)
theorem pk_r_359 : POK "MissCurves$Act" "<init>" 22 [22] 1 (.object "MissCurves$Sum") := POK.one (by decide) rfl (Nat.le_of_ble_eq_true rfl) (Or.inl ⟨_, q1441, Or.inl rfl⟩) rfl (by decide +kernel) (Or.inr ⟨rfl, rfl, rfl, _, q1441, Or.inl rfl⟩)
theorem pk_r_360 : POK "MissCurves$Act" "<init>" 26 [22] 2 (.object "MissCurves$Sum") := POK.one (by decide) rfl (Nat.le_of_ble_eq_true rfl) (Or.inl ⟨_, q1442, Or.inl rfl⟩) rfl (by decide +kernel) (Or.inr ⟨rfl, rfl, rfl, _, q1442, Or.inl rfl⟩)
theorem pk_r_361 : POK "MissCurves$Act" "<init>" 29 [22] 3 (.object "MissCurves$Sum") := POK.one (by decide) rfl (Nat.le_of_ble_eq_true rfl) (Or.inl ⟨_, q1443, Or.inl rfl⟩) rfl (by decide +kernel) (Or.inr ⟨rfl, rfl, rfl, _, q1443, Or.inl rfl⟩)
def X22_init (l0 : Option Nat) (l1 : Option Nat) (l2 : Int32) (l3 : Option Nat) (l4 : Option Nat) (l5 : Option Nat) (σ : Hp) : Option Hp :=
  (pR σ l0 [22] 7 l1).bind fun σ1 =>
  l0.bind fun b2 =>
  (pI σ1 l0 [22] 5 (1 : Int32)).bind fun σ3 =>
  (pI σ3 l0 [22] 0 l2).bind fun σ4 =>
  (pR σ4 l0 [22] 1 l3).bind fun σ5 =>
  (pR σ5 l0 [22] 2 l4).bind fun σ6 =>
  (pR σ6 l0 [22] 3 l5).bind fun σ7 =>
  some σ7
set_option maxHeartbeats 4000000 in
theorem sX22_init {γ : GP} (hγ : GOK γ) (l0 : Option Nat) (l1 : Option Nat) (l2 : Int32) (l3 : Option Nat) (l4 : Option Nat) (l5 : Option Nat) (σ : Hp) (q : Hp) (h : X22_init l0 l1 l2 l3 l4 l5 σ = some q) : Rn γ mX22_init yX22_init [va_rf l0, va_rf l1, .int l2, va_rf l3, va_rf l4, va_rf l5] (σ, .inr none, q) := by
  refine J_m hγ ykX22_init rfl [(1, va_rf l0), (1, va_rf l1), (1, .int l2), (1, va_rf l3), (1, va_rf l4), (1, va_rf l5)] (cats_r (cats_r (cats_i (cats_r (cats_r (cats_r cats_nil)))))) (Nat.le_of_ble_eq_true rfl) ?_
  show J γ mX22_init _ σ 0 [(0, 1, va_rf l0), (1, 1, va_rf l1), (2, 1, .int l2), (3, 1, va_rf l3), (4, 1, va_rf l4), (5, 1, va_rf l5)] []
  unfold X22_init at h
  refine J_aload_n (i := 0) 0 1 dX22_init_0 rfl rfl rfl ?_
  refine J_aload_n (i := 1) 1 2 dX22_init_1 rfl rfl rfl ?_
  obtain ⟨σ1, hσ1, h⟩ := some_of_bind h
  refine J_pR rfl 5 dX22_init_2 rfl pk_r_356 hσ1 ?_
  refine J_aload_n (i := 0) 0 6 dX22_init_5 rfl rfl rfl ?_
  obtain ⟨b2, hb2, h⟩ := some_of_bind h
  refine J_oI hb2 q1439 (Nat.le_of_ble_eq_true rfl) cs_nil (by decide) 9 dX22_init_6 rfl ?_
  refine J_aload_n (i := 0) 0 10 dX22_init_9 rfl rfl rfl ?_
  refine J_ic 11 dX22_init_10 rfl (1 : Int32) kic_1 ?_
  obtain ⟨σ3, hσ3, h⟩ := some_of_bind h
  refine J_pI 14 dX22_init_11 rfl pk_r_357 hσ3 ?_
  refine J_aload_n (i := 0) 0 15 dX22_init_14 rfl rfl rfl ?_
  refine J_iload_n (i := 2) 2 16 dX22_init_15 rfl rfl rfl ?_
  obtain ⟨σ4, hσ4, h⟩ := some_of_bind h
  refine J_pI 19 dX22_init_16 rfl pk_r_358 hσ4 ?_
  refine J_aload_n (i := 0) 0 20 dX22_init_19 rfl rfl rfl ?_
  refine J_aload_n (i := 3) 3 21 dX22_init_20 rfl rfl rfl ?_
  obtain ⟨σ5, hσ5, h⟩ := some_of_bind h
  refine J_pR rfl 24 dX22_init_21 rfl pk_r_359 hσ5 ?_
  refine J_aload_n (i := 0) 0 25 dX22_init_24 rfl rfl rfl ?_
  refine J_aload (i := 4) 4 27 dX22_init_25 rfl rfl ?_
  obtain ⟨σ6, hσ6, h⟩ := some_of_bind h
  refine J_pR rfl 30 dX22_init_27 rfl pk_r_360 hσ6 ?_
  refine J_aload_n (i := 0) 0 31 dX22_init_30 rfl rfl rfl ?_
  refine J_aload (i := 5) 5 33 dX22_init_31 rfl rfl ?_
  obtain ⟨σ7, hσ7, h⟩ := some_of_bind h
  refine J_pR rfl 36 dX22_init_33 rfl pk_r_361 hσ7 ?_
  exact J_vret rfl dX22_init_36 (retV h)
abbrev mX23_behind : MP := (cX23_behind, "MissCurves$OrderReader", 2, (Option.some (FieldType.object "MissCurves$Sum")), 47, "behind", [])
theorem ykX23_behind : YK yX23_behind mX23_behind 1 := ⟨q1481, q170, ⟨by decide, by decide⟩, by decide +kernel, Nat.le_of_ble_eq_true rfl, by decide, rfl, rfl⟩
def X23_behind (l0 : Option Nat) (l1 : Option Nat) (σ : Hp) : Option ((Nat ⊕ Option Nat) × Hp) :=
  (cT σ l0 23).bind fun b2 =>
  (X9_accept l0 l1 σ).bind fun q1 =>
  (cT q1.2 l0 23).bind fun b4 =>
  (X9_must l0 q1.1 q1.2).bind fun q3 =>
  bT q3 fun w5 =>
  (cT q3.2 l0 23).bind fun b8 =>
  (X9_sum 12 l0  q3.2).bind fun q7 =>
  bT q7 fun w9 =>
  some (Sum.inr w9, q7.2)
set_option maxHeartbeats 4000000 in
theorem sX23_behind {γ : GP} (hγ : GOK γ) (l0 : Option Nat) (l1 : Option Nat) (σ : Hp) (q : ((Nat ⊕ Option Nat) × Hp)) (h : X23_behind l0 l1 σ = some q) : Rn γ mX23_behind yX23_behind [va_rf l0, va_rf l1] (σ, fxR q.1, q.2) := by
  refine J_mX hγ ykX23_behind rfl [(1, va_rf l0), (1, va_rf l1)] (cats_r (cats_r cats_nil)) (Nat.le_of_ble_eq_true rfl) ?_
  show J γ mX23_behind _ σ 0 [(0, 1, va_rf l0), (1, 1, va_rf l1)] []
  unfold X23_behind at h
  refine J_aload_n (i := 0) 0 1 dX23_behind_0 rfl rfl rfl ?_
  refine J_aload_n (i := 0) 0 2 dX23_behind_1 rfl rfl rfl ?_
  refine J_aload_n (i := 1) 1 3 dX23_behind_2 rfl rfl rfl ?_
  obtain ⟨b2, hb2, h⟩ := some_of_bind h
  obtain ⟨q1, hq1, h⟩ := some_of_bind h
  refine J_cUi (na := 1) (D := 7) 6 dX23_behind_3 rfl q1431 q1432 q1327 ⟨by decide, by decide, by decide +kernel⟩ (Nat.le_of_ble_eq_true rfl) (cs_rf cs_nil) (by decide) [va_rf l1] rfl rfl (UR.of (c9 := 23) hb2 (by decide) rfl ykX9_accept q1433 q1233 (Nat.le_refl _) (sX9_accept hγ l0 l1 σ q1 hq1)) ?_
  obtain ⟨b4, hb4, h⟩ := some_of_bind h
  obtain ⟨q3, hq3, h⟩ := some_of_bind h
  rcases bT_of h with ⟨a6, ha6, ht, hq⟩ | ⟨w5, hw5, h⟩
  · exact J_cUT (na := 1) (D := 4) dX23_behind_6 q1471 q1472 q1201 ⟨by decide, by decide, by decide +kernel⟩ (Nat.le_of_ble_eq_true rfl) cs_nil (by decide) [.int q1.1] rfl rfl (UR.of (c9 := 23) hb4 (by decide) rfl ykX9_must q1473 q1133 (Nat.le_refl _) (by have hx := sX9_must hγ l0 q1.1 q1.2 q3 hq3; rw [ha6] at hx; exact hx)) (JT_out rfl ht (thrR hq))
  · refine J_cUv (na := 1) (D := 4) 9 dX23_behind_6 rfl q1471 q1472 q1201 ⟨by decide, by decide, by decide +kernel⟩ (Nat.le_of_ble_eq_true rfl) cs_nil (by decide) [.int q1.1] rfl rfl (UR.of (c9 := 23) hb4 (by decide) rfl ykX9_must q1473 q1133 (Nat.le_refl _) (by have hx := sX9_must hγ l0 q1.1 q1.2 q3 hq3; rw [hw5] at hx; exact hx)) ?_
    refine J_aload_n (i := 0) 0 10 dX23_behind_9 rfl rfl rfl ?_
    obtain ⟨b8, hb8, h⟩ := some_of_bind h
    obtain ⟨q7, hq7, h⟩ := some_of_bind h
    rcases bT_of h with ⟨a10, ha10, ht, hq⟩ | ⟨w9, hw9, h⟩
    · exact J_cUT (na := 0) (D := 46) dX23_behind_10 q1474 q1475 q1209 ⟨by decide, by decide, by decide +kernel⟩ (Nat.le_of_ble_eq_true rfl) cs_nil (by decide) [] rfl rfl (UR.of (c9 := 23) hb8 (by decide) rfl (ykX9_sum 12) q1476 q1211 (Nat.le_refl _) (by have hx := sX9_sum hγ 12 l0  q3.2 q7 hq7; rw [ha10] at hx; exact hx)) (JT_out rfl ht (thrR hq))
    · refine J_cUr (na := 0) (D := 46) 13 dX23_behind_10 rfl q1474 q1475 q1209 ⟨by decide, by decide, by decide +kernel⟩ (Nat.le_of_ble_eq_true rfl) cs_nil (by decide) [] rfl rfl (UR.of (c9 := 23) hb8 (by decide) rfl (ykX9_sum 12) q1476 q1211 (Nat.le_refl _) (by have hx := sX9_sum hγ 12 l0  q3.2 q7 hq7; rw [hw9] at hx; exact hx)) ?_
      exact J_aret rfl (Or.inl ⟨_, rfl⟩) dX23_behind_13 (retRX h)
abbrev mX23_act : MP := (cX23_act, "MissCurves$OrderReader", 4, (Option.some (FieldType.object "MissCurves$Act")), 48, "act", [])
theorem ykX23_act : YK yX23_act mX23_act 0 := ⟨q1429, q170, ⟨by decide, by decide⟩, by decide +kernel, Nat.le_of_ble_eq_true rfl, by decide, rfl, rfl⟩
def X23_act_c96  (l0 : Option Nat) (l1 : Int32) (l2 : Option Nat) (s0 : Option Nat) (σ : Hp) : Option ((Nat ⊕ Option Nat) × Hp) :=
  (gR (wN σ 22 0 8) l0 [23] 9).bind fun v1 =>
  (cT (wN σ 22 0 8) l0 23).bind fun b3 =>
  (X23_behind l0 (hst (wN σ 22 0 8) 120) (wN σ 22 0 8)).bind fun q2 =>
  bT q2 fun w4 =>
  (some (hsz σ)).bind fun b7 =>
  (X22_init (some (hsz σ)) v1 l1 l2 s0 w4 q2.2).bind fun q6 =>
  some (Sum.inr (some (hsz σ)), q6)
set_option maxHeartbeats 4000000 in
theorem jX23_act_c96 {γ : GP} {σ0 : Hp} {q : ((Nat ⊕ Option Nat) × Hp)} (hγ : GOK γ) (l0 : Option Nat) (l1 : Int32) (l2 : Option Nat)  (s0 : Option Nat) (σ : Hp) (h : X23_act_c96 l0 l1 l2 s0 σ = some q) : J γ mX23_act (σ0, fxR q.1, q.2) σ 96 [(0, 1, va_rf l0), (1, 1, .int l1), (2, 1, va_rf l2)] [va_rf s0] := by
  unfold X23_act_c96 at h
  refine J_astore_n (i := 3) 97 [(3, 1, va_rf s0), (0, 1, va_rf l0), (1, 1, .int l1), (2, 1, va_rf l2)] dX23_act_96 rfl rfl (Nat.le_of_ble_eq_true rfl) rfl ?_
  refine J_new (c9 := 22) (nsl := 8) rfl (by decide) (by decide +kernel) q1434 q1435 q169 100 dX23_act_97 rfl ?_
  refine J_dupr 101 dX23_act_100 rfl ?_
  refine J_aload_n (i := 0) 1 102 dX23_act_101 rfl rfl rfl ?_
  obtain ⟨v1, hv1, h⟩ := some_of_bind h
  refine J_gR 105 dX23_act_102 rfl fk_r_341 hv1 ?_
  refine J_iload_n (i := 1) 2 106 dX23_act_105 rfl rfl rfl ?_
  refine J_aload_n (i := 2) 3 107 dX23_act_106 rfl rfl rfl ?_
  refine J_aload_n (i := 3) 0 108 dX23_act_107 rfl rfl rfl ?_
  refine J_aload_n (i := 0) 1 109 dX23_act_108 rfl rfl rfl ?_
  refine J_ldcS (k := 120) (tx := "by") (show (120, "MissCurves$OrderReader", 98, "by") ∈ strl by decide) 111 dX23_act_109 rfl ?_
  obtain ⟨b3, hb3, h⟩ := some_of_bind h
  obtain ⟨q2, hq2, h⟩ := some_of_bind h
  rcases bT_of h with ⟨a5, ha5, ht, hq⟩ | ⟨w4, hw4, h⟩
  · exact J_cWT dX23_act_111 ykX23_behind (Or.inl q1478) q1480 (Nat.le_of_ble_eq_true rfl) (cs_rf (cs_rf (cs_int (cs_rf (cs_rf (cs_rf cs_nil)))))) (by decide) [va_rf (hst (wN σ 22 0 8) 120)] (RC.one hb3 (by decide) rfl qs16) rfl rfl (by have hx := sX23_behind hγ l0 (hst (wN σ 22 0 8) 120) (wN σ 22 0 8) q2 hq2; rw [ha5] at hx; exact hx) (JT_out rfl ht (thrR hq))
  · refine J_cWr 114 dX23_act_111 rfl ykX23_behind (Or.inl q1478) q1480 (Nat.le_of_ble_eq_true rfl) (cs_rf (cs_rf (cs_int (cs_rf (cs_rf (cs_rf cs_nil)))))) (by decide) [va_rf (hst (wN σ 22 0 8) 120)] (RC.one hb3 (by decide) rfl qs16) rfl rfl (by have hx := sX23_behind hγ l0 (hst (wN σ 22 0 8) 120) (wN σ 22 0 8) q2 hq2; rw [hw4] at hx; exact hx) ?_
    obtain ⟨b7, hb7, h⟩ := some_of_bind h
    obtain ⟨q6, hq6, h⟩ := some_of_bind h
    refine J_cI 117 dX23_act_114 rfl ykX22_init rfl (Or.inl q1436) q1437 rfl (Nat.le_of_ble_eq_true rfl) (cs_rf cs_nil) (by decide) [va_rf v1, .int l1, va_rf l2, va_rf s0, va_rf w4] hb7 rfl rfl (sX22_init hγ (some (hsz σ)) v1 l1 l2 s0 w4 q2.2 q6 hq6) ?_
    exact J_aret rfl (Or.inl ⟨_, rfl⟩) dX23_act_117 (retRX h)
def X23_act_c73  (l0 : Option Nat) (l1 : Int32) (s0 : Option Nat) (s1 : Int32) (σ : Hp) : Option ((Nat ⊕ Option Nat) × Hp) :=
  (cT σ s0 23).bind fun b2 =>
  (X9_must s0 s1 σ).bind fun q1 =>
  bT q1 fun w3 =>
  (cT q1.2 l0 23).bind fun b6 =>
  (X9_sum 12 l0  q1.2).bind fun q5 =>
  bT q5 fun w7 =>
  if l1 = (1 : Int32) then
    (cT q5.2 l0 23).bind fun b11 =>
    (X23_behind l0 (hst q5.2 146) q5.2).bind fun q10 =>
    bT q10 fun w12 =>
    X23_act_c96  l0 l1 w7 w12 q10.2
  else
    X23_act_c96  l0 l1 w7 none q5.2
set_option maxHeartbeats 4000000 in
theorem jX23_act_c73 {γ : GP} {σ0 : Hp} {q : ((Nat ⊕ Option Nat) × Hp)} (hγ : GOK γ) (l0 : Option Nat) (l1 : Int32)  (s0 : Option Nat) (s1 : Int32) (σ : Hp) (h : X23_act_c73 l0 l1 s0 s1 σ = some q) : J γ mX23_act (σ0, fxR q.1, q.2) σ 73 [(0, 1, va_rf l0), (1, 1, .int l1)] [.int s1, va_rf s0] := by
  unfold X23_act_c73 at h
  obtain ⟨b2, hb2, h⟩ := some_of_bind h
  obtain ⟨q1, hq1, h⟩ := some_of_bind h
  rcases bT_of h with ⟨a4, ha4, ht, hq⟩ | ⟨w3, hw3, h⟩
  · exact J_cUT (na := 1) (D := 4) dX23_act_73 q1471 q1472 q1201 ⟨by decide, by decide, by decide +kernel⟩ (Nat.le_of_ble_eq_true rfl) cs_nil (by decide) [.int s1] rfl rfl (UR.of (c9 := 23) hb2 (by decide) rfl ykX9_must q1473 q1133 (Nat.le_refl _) (by have hx := sX9_must hγ s0 s1 σ q1 hq1; rw [ha4] at hx; exact hx)) (JT_out rfl ht (thrR hq))
  · refine J_cUv (na := 1) (D := 4) 76 dX23_act_73 rfl q1471 q1472 q1201 ⟨by decide, by decide, by decide +kernel⟩ (Nat.le_of_ble_eq_true rfl) cs_nil (by decide) [.int s1] rfl rfl (UR.of (c9 := 23) hb2 (by decide) rfl ykX9_must q1473 q1133 (Nat.le_refl _) (by have hx := sX9_must hγ s0 s1 σ q1 hq1; rw [hw3] at hx; exact hx)) ?_
    refine J_aload_n (i := 0) 0 77 dX23_act_76 rfl rfl rfl ?_
    obtain ⟨b6, hb6, h⟩ := some_of_bind h
    obtain ⟨q5, hq5, h⟩ := some_of_bind h
    rcases bT_of h with ⟨a8, ha8, ht, hq⟩ | ⟨w7, hw7, h⟩
    · exact J_cUT (na := 0) (D := 46) dX23_act_77 q1474 q1475 q1209 ⟨by decide, by decide, by decide +kernel⟩ (Nat.le_of_ble_eq_true rfl) cs_nil (by decide) [] rfl rfl (UR.of (c9 := 23) hb6 (by decide) rfl (ykX9_sum 12) q1476 q1211 (Nat.le_refl _) (by have hx := sX9_sum hγ 12 l0  q1.2 q5 hq5; rw [ha8] at hx; exact hx)) (JT_out rfl ht (thrR hq))
    · refine J_cUr (na := 0) (D := 46) 80 dX23_act_77 rfl q1474 q1475 q1209 ⟨by decide, by decide, by decide +kernel⟩ (Nat.le_of_ble_eq_true rfl) cs_nil (by decide) [] rfl rfl (UR.of (c9 := 23) hb6 (by decide) rfl (ykX9_sum 12) q1476 q1211 (Nat.le_refl _) (by have hx := sX9_sum hγ 12 l0  q1.2 q5 hq5; rw [hw7] at hx; exact hx)) ?_
      refine J_astore_n (i := 2) 81 [(2, 1, va_rf w7), (0, 1, va_rf l0), (1, 1, .int l1)] dX23_act_80 rfl rfl (Nat.le_of_ble_eq_true rfl) rfl ?_
      refine J_iload_n (i := 1) 2 82 dX23_act_81 rfl rfl rfl ?_
      refine J_ic 83 dX23_act_82 rfl (1 : Int32) kic_1 ?_
      refine J_icmp_ne 95 86 dX23_act_83 (by decide) rfl (fun c9 => ?_) (fun c9 => ?_)
      · rw [if_neg c9] at h
        refine J_null 96 dX23_act_95 rfl ?_
        refine J.pick [1, 2, 0] rfl ?_
        exact jX23_act_c96 hγ l0 l1 w7 none q5.2 h
      · rw [if_pos c9] at h
        refine J_aload_n (i := 0) 1 87 dX23_act_86 rfl rfl rfl ?_
        refine J_ldcS (k := 146) (tx := "to") (show (146, "MissCurves$OrderReader", 93, "to") ∈ strl by decide) 89 dX23_act_87 rfl ?_
        obtain ⟨b11, hb11, h⟩ := some_of_bind h
        obtain ⟨q10, hq10, h⟩ := some_of_bind h
        rcases bT_of h with ⟨a13, ha13, ht, hq⟩ | ⟨w12, hw12, h⟩
        · exact J_cWT dX23_act_89 ykX23_behind (Or.inl q1478) q1480 (Nat.le_of_ble_eq_true rfl) cs_nil (by decide) [va_rf (hst q5.2 146)] (RC.one hb11 (by decide) rfl qs16) rfl rfl (by have hx := sX23_behind hγ l0 (hst q5.2 146) q5.2 q10 hq10; rw [ha13] at hx; exact hx) (JT_out rfl ht (thrR hq))
        · refine J_cWr 92 dX23_act_89 rfl ykX23_behind (Or.inl q1478) q1480 (Nat.le_of_ble_eq_true rfl) cs_nil (by decide) [va_rf (hst q5.2 146)] (RC.one hb11 (by decide) rfl qs16) rfl rfl (by have hx := sX23_behind hγ l0 (hst q5.2 146) q5.2 q10 hq10; rw [hw12] at hx; exact hx) ?_
          refine J_goto 96 dX23_act_92 (by decide) ?_
          refine J.pick [1, 2, 0] rfl ?_
          exact jX23_act_c96 hγ l0 l1 w7 w12 q10.2 h
def X23_act_c52  (l0 : Option Nat) (s0 : Int32) (σ : Hp) : Option ((Nat ⊕ Option Nat) × Hp) :=
  if s0 = (2 : Int32) then
    (cT σ l0 23).bind fun b3 =>
    (X9_accept l0 (hst σ 125) σ).bind fun q2 =>
    if q2.1 = 0 then
      X23_act_c73  l0 s0 l0 (0 : Int32) q2.2
    else
      X23_act_c73  l0 s0 l0 (1 : Int32) q2.2
  else
    X23_act_c73  l0 s0 l0 (1 : Int32) σ
set_option maxHeartbeats 4000000 in
theorem jX23_act_c52 {γ : GP} {σ0 : Hp} {q : ((Nat ⊕ Option Nat) × Hp)} (hγ : GOK γ) (l0 : Option Nat)  (s0 : Int32) (σ : Hp) (h : X23_act_c52 l0 s0 σ = some q) : J γ mX23_act (σ0, fxR q.1, q.2) σ 52 [(0, 1, va_rf l0)] [.int s0] := by
  unfold X23_act_c52 at h
  refine J_istore_n (i := 1) 53 [(1, 1, .int s0), (0, 1, va_rf l0)] dX23_act_52 rfl rfl (Nat.le_of_ble_eq_true rfl) rfl ?_
  refine J_aload_n (i := 0) 1 54 dX23_act_53 rfl rfl rfl ?_
  refine J_iload_n (i := 1) 0 55 dX23_act_54 rfl rfl rfl ?_
  refine J_ic 56 dX23_act_55 rfl (2 : Int32) kic_2 ?_
  refine J_icmp_ne 68 59 dX23_act_56 (by decide) rfl (fun c1 => ?_) (fun c1 => ?_)
  · rw [if_neg c1] at h
    refine J_ic 69 dX23_act_68 rfl (1 : Int32) kic_1 ?_
    refine J_goto 73 dX23_act_69 (by decide) ?_
    refine J.pick [1, 0] rfl ?_
    exact jX23_act_c73 hγ l0 s0 l0 (1 : Int32) σ h
  · rw [if_pos c1] at h
    refine J_aload_n (i := 0) 1 60 dX23_act_59 rfl rfl rfl ?_
    refine J_ldcS (k := 125) (tx := "drop") (show (125, "MissCurves$OrderReader", 91, "drop") ∈ strl by decide) 62 dX23_act_60 rfl ?_
    obtain ⟨b3, hb3, h⟩ := some_of_bind h
    obtain ⟨q2, hq2, h⟩ := some_of_bind h
    refine J_cUi (na := 1) (D := 7) 65 dX23_act_62 rfl q1431 q1432 q1327 ⟨by decide, by decide, by decide +kernel⟩ (Nat.le_of_ble_eq_true rfl) (cs_rf cs_nil) (by decide) [va_rf (hst σ 125)] rfl rfl (UR.of (c9 := 23) hb3 (by decide) rfl ykX9_accept q1433 q1233 (Nat.le_refl _) (sX9_accept hγ l0 (hst σ 125) σ q2 hq2)) ?_
    refine J_if_eq 72 68 dX23_act_65 (by decide) rfl (fun c4 => ?_) (fun c4 => ?_)
    · rw [if_pos c4] at h
      refine J_ic 73 dX23_act_72 rfl (0 : Int32) kic_0 ?_
      refine J.pick [1, 0] rfl ?_
      exact jX23_act_c73 hγ l0 s0 l0 (0 : Int32) q2.2 h
    · rw [if_neg c4] at h
      refine J_ic 69 dX23_act_68 rfl (1 : Int32) kic_1 ?_
      refine J_goto 73 dX23_act_69 (by decide) ?_
      refine J.pick [1, 0] rfl ?_
      exact jX23_act_c73 hγ l0 s0 l0 (1 : Int32) q2.2 h
def X23_act (l0 : Option Nat) (σ : Hp) : Option ((Nat ⊕ Option Nat) × Hp) :=
  (cT σ l0 23).bind fun b2 =>
  (X9_accept l0 (hst σ 140) σ).bind fun q1 =>
  if q1.1 = 0 then
    (cT q1.2 l0 23).bind fun b5 =>
    (X9_accept l0 (hst q1.2 141) q1.2).bind fun q4 =>
    if q4.1 = 0 then
      (cT q4.2 l0 23).bind fun b8 =>
      (X9_accept l0 (hst q4.2 132) q4.2).bind fun q7 =>
      if q7.1 = 0 then
        X23_act_c52  l0 (2 : Int32) q7.2
      else
        X23_act_c52  l0 (1 : Int32) q7.2
    else
      X23_act_c52  l0 (0 : Int32) q4.2
  else
    (gR (wN q1.2 22 0 8) l0 [23] 9).bind fun v10 =>
    (some (hsz q1.2)).bind fun b12 =>
    (X22_init (some (hsz q1.2)) v10 (3 : Int32) none none none (wN q1.2 22 0 8)).bind fun q11 =>
    some (Sum.inr (some (hsz q1.2)), q11)
set_option maxHeartbeats 4000000 in
theorem sX23_act {γ : GP} (hγ : GOK γ) (l0 : Option Nat) (σ : Hp) (q : ((Nat ⊕ Option Nat) × Hp)) (h : X23_act l0 σ = some q) : Rn γ mX23_act yX23_act [va_rf l0] (σ, fxR q.1, q.2) := by
  refine J_mX hγ ykX23_act rfl [(1, va_rf l0)] (cats_r cats_nil) (Nat.le_of_ble_eq_true rfl) ?_
  show J γ mX23_act _ σ 0 [(0, 1, va_rf l0)] []
  unfold X23_act at h
  refine J_aload_n (i := 0) 0 1 dX23_act_0 rfl rfl rfl ?_
  refine J_ldcS (k := 140) (tx := "pass") (show (140, "MissCurves$OrderReader", 82, "pass") ∈ strl by decide) 3 dX23_act_1 rfl ?_
  obtain ⟨b2, hb2, h⟩ := some_of_bind h
  obtain ⟨q1, hq1, h⟩ := some_of_bind h
  refine J_cUi (na := 1) (D := 7) 6 dX23_act_3 rfl q1431 q1432 q1327 ⟨by decide, by decide, by decide +kernel⟩ (Nat.le_of_ble_eq_true rfl) cs_nil (by decide) [va_rf (hst σ 140)] rfl rfl (UR.of (c9 := 23) hb2 (by decide) rfl ykX9_accept q1433 q1233 (Nat.le_refl _) (sX9_accept hγ l0 (hst σ 140) σ q1 hq1)) ?_
  refine J_if_eq 25 9 dX23_act_6 (by decide) rfl (fun c3 => ?_) (fun c3 => ?_)
  · rw [if_pos c3] at h
    refine J_aload_n (i := 0) 0 26 dX23_act_25 rfl rfl rfl ?_
    refine J_ldcS (k := 141) (tx := "read") (show (141, "MissCurves$OrderReader", 87, "read") ∈ strl by decide) 28 dX23_act_26 rfl ?_
    obtain ⟨b5, hb5, h⟩ := some_of_bind h
    obtain ⟨q4, hq4, h⟩ := some_of_bind h
    refine J_cUi (na := 1) (D := 7) 31 dX23_act_28 rfl q1431 q1432 q1327 ⟨by decide, by decide, by decide +kernel⟩ (Nat.le_of_ble_eq_true rfl) cs_nil (by decide) [va_rf (hst q1.2 141)] rfl rfl (UR.of (c9 := 23) hb5 (by decide) rfl ykX9_accept q1433 q1233 (Nat.le_refl _) (sX9_accept hγ l0 (hst q1.2 141) q1.2 q4 hq4)) ?_
    refine J_if_eq 38 34 dX23_act_31 (by decide) rfl (fun c6 => ?_) (fun c6 => ?_)
    · rw [if_pos c6] at h
      refine J_aload_n (i := 0) 0 39 dX23_act_38 rfl rfl rfl ?_
      refine J_ldcS (k := 132) (tx := "loop") (show (132, "MissCurves$OrderReader", 89, "loop") ∈ strl by decide) 41 dX23_act_39 rfl ?_
      obtain ⟨b8, hb8, h⟩ := some_of_bind h
      obtain ⟨q7, hq7, h⟩ := some_of_bind h
      refine J_cUi (na := 1) (D := 7) 44 dX23_act_41 rfl q1431 q1432 q1327 ⟨by decide, by decide, by decide +kernel⟩ (Nat.le_of_ble_eq_true rfl) cs_nil (by decide) [va_rf (hst q4.2 132)] rfl rfl (UR.of (c9 := 23) hb8 (by decide) rfl ykX9_accept q1433 q1233 (Nat.le_refl _) (sX9_accept hγ l0 (hst q4.2 132) q4.2 q7 hq7)) ?_
      refine J_if_eq 51 47 dX23_act_44 (by decide) rfl (fun c9 => ?_) (fun c9 => ?_)
      · rw [if_pos c9] at h
        refine J_ic 52 dX23_act_51 rfl (2 : Int32) kic_2 ?_
        exact jX23_act_c52 hγ l0 (2 : Int32) q7.2 h
      · rw [if_neg c9] at h
        refine J_ic 48 dX23_act_47 rfl (1 : Int32) kic_1 ?_
        refine J_goto 52 dX23_act_48 (by decide) ?_
        exact jX23_act_c52 hγ l0 (1 : Int32) q7.2 h
    · rw [if_neg c6] at h
      refine J_ic 35 dX23_act_34 rfl (0 : Int32) kic_0 ?_
      refine J_goto 52 dX23_act_35 (by decide) ?_
      exact jX23_act_c52 hγ l0 (0 : Int32) q4.2 h
  · rw [if_neg c3] at h
    refine J_new (c9 := 22) (nsl := 8) rfl (by decide) (by decide +kernel) q1434 q1435 q169 12 dX23_act_9 rfl ?_
    refine J_dupr 13 dX23_act_12 rfl ?_
    refine J_aload_n (i := 0) 0 14 dX23_act_13 rfl rfl rfl ?_
    obtain ⟨v10, hv10, h⟩ := some_of_bind h
    refine J_gR 17 dX23_act_14 rfl fk_r_341 hv10 ?_
    refine J_ic 18 dX23_act_17 rfl (3 : Int32) kic_3 ?_
    refine J_null 19 dX23_act_18 rfl ?_
    refine J_null 20 dX23_act_19 rfl ?_
    refine J_null 21 dX23_act_20 rfl ?_
    obtain ⟨b12, hb12, h⟩ := some_of_bind h
    obtain ⟨q11, hq11, h⟩ := some_of_bind h
    refine J_cI 24 dX23_act_21 rfl ykX22_init rfl (Or.inl q1436) q1437 rfl (Nat.le_of_ble_eq_true rfl) (cs_rf cs_nil) (by decide) [va_rf v10, .int (3 : Int32), va_rf none, va_rf none, va_rf none] hb12 rfl rfl (sX22_init hγ (some (hsz q1.2)) v10 (3 : Int32) none none none (wN q1.2 22 0 8) q11 hq11) ?_
    exact J_aret rfl (Or.inl ⟨_, rfl⟩) dX23_act_24 (retRX h)
abbrev mX23_isNought : MP := (cX23_isNought, "MissCurves$OrderReader", 3, (Option.some FieldType.boolean), 0, "isNought", [])
theorem ykX23_isNought : YK yX23_isNought mX23_isNought 0 := ⟨q1487, q170, ⟨by decide, by decide⟩, by decide +kernel, Nat.le_of_ble_eq_true rfl, by decide, rfl, rfl⟩
theorem fk_r_362 : FOK "MissCurves$OrderReader" 59 [23] 1 isI := FOK.one (by decide) rfl (Nat.le_of_ble_eq_true rfl) (Or.inl ⟨_, q1079, Or.inr q1080⟩) rfl
theorem fk_r_363 : FOK "MissCurves$OrderReader" 62 [0] 14 isR := FOK.one (by decide) rfl (Nat.le_of_ble_eq_true rfl) (Or.inr ⟨_, q396⟩) rfl
theorem fk_r_364 : FOK "MissCurves$OrderReader" 55 [23] 0 isI := FOK.one (by decide) rfl (Nat.le_of_ble_eq_true rfl) (Or.inl ⟨_, q1076, Or.inr q1077⟩) rfl
def X23_isNought_c22 (l0 : Option Nat)  : Nat → Int32 → Int32 → Hp → Option (Int32 × Hp)
  | 0, _, _, _ => none
  | n + 1, l1, l2, σ =>
    (gI σ l0 [23] 1).bind fun v1 =>
    if v1 ≤ l2 then
      rZ l1 σ
    else
      (gR σ l0 [23] 9).bind fun v4 =>
      (gR σ v4 [0] 14).bind fun v5 =>
      (aI 2 σ v5 l2).bind fun v6 =>
      if v6 = (48 : Int32) then
        X23_isNought_c22 l0 n (l1 &&& (1 : Int32)) (l2 + (1 : Int32)) σ
      else
        X23_isNought_c22 l0 n (l1 &&& (0 : Int32)) (l2 + (1 : Int32)) σ
set_option maxHeartbeats 4000000 in
theorem jX23_isNought_c22 {γ : GP} {σ0 : Hp} {q : (Int32 × Hp)} (hγ : GOK γ) (l0 : Option Nat)  : ∀ (n : Nat) (l1 : Int32) (l2 : Int32) (σ : Hp), X23_isNought_c22 l0 n l1 l2 σ = some q → J γ mX23_isNought (σ0, .inr (some (.int q.1)), q.2) σ 22 [(0, 1, va_rf l0), (1, 1, .int l1), (2, 1, .int l2)] [] := by
  intro n
  induction n with
  | zero => intro l1 l2 σ h; exact nomatch (show none = some q from h)
  | succ n ih =>
    intro l1 l2 σ h
    rw [X23_isNought_c22] at h
    refine J_iload_n (i := 2) 2 23 dX23_isNought_22 rfl rfl rfl ?_
    refine J_aload_n (i := 0) 0 24 dX23_isNought_23 rfl rfl rfl ?_
    obtain ⟨v1, hv1, h⟩ := some_of_bind h
    refine J_gI 27 dX23_isNought_24 rfl fk_r_362 hv1 ?_
    refine J_icmp_ge 58 30 dX23_isNought_27 (by decide) rfl (fun c2 => ?_) (fun c2 => ?_)
    · rw [if_pos c2] at h
      refine J_iload_n (i := 1) 1 59 dX23_isNought_58 rfl rfl rfl ?_
      exact J_zret rfl (ite_some h).1 dX23_isNought_59 (retZ h)
    · rw [if_neg c2] at h
      refine J_iload_n (i := 1) 1 31 dX23_isNought_30 rfl rfl rfl ?_
      refine J_aload_n (i := 0) 0 32 dX23_isNought_31 rfl rfl rfl ?_
      obtain ⟨v4, hv4, h⟩ := some_of_bind h
      refine J_gR 35 dX23_isNought_32 rfl fk_r_341 hv4 ?_
      obtain ⟨v5, hv5, h⟩ := some_of_bind h
      refine J_gR 38 dX23_isNought_35 rfl fk_r_363 hv5 ?_
      refine J_iload_n (i := 2) 2 39 dX23_isNought_38 rfl rfl rfl ?_
      obtain ⟨v6, hv6, h⟩ := some_of_bind h
      refine J_bald 40 dX23_isNought_39 rfl hv6 ?_
      refine J_bipush 42 dX23_isNought_40 rfl (48 : Int32) kbp_48 ?_
      refine J_icmp_ne 49 45 dX23_isNought_42 (by decide) rfl (fun c7 => ?_) (fun c7 => ?_)
      · rw [if_neg c7] at h
        refine J_ic 50 dX23_isNought_49 rfl (0 : Int32) kic_0 ?_
        refine J_iand 51 dX23_isNought_50 rfl ?_
        refine J_istore_n (i := 1) 52 [(1, 1, .int (l1 &&& (0 : Int32))), (0, 1, va_rf l0), (2, 1, .int l2)] dX23_isNought_51 rfl rfl (Nat.le_of_ble_eq_true rfl) rfl ?_
        refine J_iinc (i := 2) (v := l2 + (1 : Int32)) 2 55 [(2, 1, .int (l2 + (1 : Int32))), (1, 1, .int (l1 &&& (0 : Int32))), (0, 1, va_rf l0)] dX23_isNought_52 rfl rfl (Nat.le_of_ble_eq_true rfl) (by rw [kic_1]) rfl ?_
        refine J_goto 22 dX23_isNought_55 (by decide) ?_
        refine J.pick [2, 1, 0] rfl ?_
        exact ih (l1 &&& (0 : Int32)) (l2 + (1 : Int32)) σ h
      · rw [if_pos c7] at h
        refine J_ic 46 dX23_isNought_45 rfl (1 : Int32) kic_1 ?_
        refine J_goto 50 dX23_isNought_46 (by decide) ?_
        refine J_iand 51 dX23_isNought_50 rfl ?_
        refine J_istore_n (i := 1) 52 [(1, 1, .int (l1 &&& (1 : Int32))), (0, 1, va_rf l0), (2, 1, .int l2)] dX23_isNought_51 rfl rfl (Nat.le_of_ble_eq_true rfl) rfl ?_
        refine J_iinc (i := 2) (v := l2 + (1 : Int32)) 2 55 [(2, 1, .int (l2 + (1 : Int32))), (1, 1, .int (l1 &&& (1 : Int32))), (0, 1, va_rf l0)] dX23_isNought_52 rfl rfl (Nat.le_of_ble_eq_true rfl) (by rw [kic_1]) rfl ?_
        refine J_goto 22 dX23_isNought_55 (by decide) ?_
        refine J.pick [2, 1, 0] rfl ?_
        exact ih (l1 &&& (1 : Int32)) (l2 + (1 : Int32)) σ h
def X23_isNought_c16  (l0 : Option Nat) (s0 : Int32) (σ : Hp) : Option (Int32 × Hp) :=
  (gI σ l0 [23] 0).bind fun v1 =>
  X23_isNought_c22 l0  FUEL s0 v1 σ
set_option maxHeartbeats 4000000 in
theorem jX23_isNought_c16 {γ : GP} {σ0 : Hp} {q : (Int32 × Hp)} (hγ : GOK γ) (l0 : Option Nat)  (s0 : Int32) (σ : Hp) (h : X23_isNought_c16 l0 s0 σ = some q) : J γ mX23_isNought (σ0, .inr (some (.int q.1)), q.2) σ 16 [(0, 1, va_rf l0)] [.int s0] := by
  unfold X23_isNought_c16 at h
  refine J_istore_n (i := 1) 17 [(1, 1, .int s0), (0, 1, va_rf l0)] dX23_isNought_16 rfl rfl (Nat.le_of_ble_eq_true rfl) rfl ?_
  refine J_aload_n (i := 0) 1 18 dX23_isNought_17 rfl rfl rfl ?_
  obtain ⟨v1, hv1, h⟩ := some_of_bind h
  refine J_gI 21 dX23_isNought_18 rfl fk_r_364 hv1 ?_
  refine J_istore_n (i := 2) 22 [(2, 1, .int v1), (1, 1, .int s0), (0, 1, va_rf l0)] dX23_isNought_21 rfl rfl (Nat.le_of_ble_eq_true rfl) rfl ?_
  refine J.pick [2, 1, 0] rfl ?_
  refine jX23_isNought_c22 hγ l0  FUEL s0 v1 σ h
def X23_isNought (l0 : Option Nat) (σ : Hp) : Option (Int32 × Hp) :=
  (gI σ l0 [23] 0).bind fun v1 =>
  (gI σ l0 [23] 1).bind fun v2 =>
  if v2 ≤ v1 then
    X23_isNought_c16  l0 (0 : Int32) σ
  else
    X23_isNought_c16  l0 (1 : Int32) σ
set_option maxHeartbeats 4000000 in
theorem sX23_isNought {γ : GP} (hγ : GOK γ) (l0 : Option Nat) (σ : Hp) (q : (Int32 × Hp)) (h : X23_isNought l0 σ = some q) : Rn γ mX23_isNought yX23_isNought [va_rf l0] (σ, .inr (some (.int q.1)), q.2) := by
  refine J_m hγ ykX23_isNought rfl [(1, va_rf l0)] (cats_r cats_nil) (Nat.le_of_ble_eq_true rfl) ?_
  show J γ mX23_isNought _ σ 0 [(0, 1, va_rf l0)] []
  unfold X23_isNought at h
  refine J_aload_n (i := 0) 0 1 dX23_isNought_0 rfl rfl rfl ?_
  obtain ⟨v1, hv1, h⟩ := some_of_bind h
  refine J_gI 4 dX23_isNought_1 rfl fk_r_364 hv1 ?_
  refine J_aload_n (i := 0) 0 5 dX23_isNought_4 rfl rfl rfl ?_
  obtain ⟨v2, hv2, h⟩ := some_of_bind h
  refine J_gI 8 dX23_isNought_5 rfl fk_r_362 hv2 ?_
  refine J_icmp_ge 15 11 dX23_isNought_8 (by decide) rfl (fun c3 => ?_) (fun c3 => ?_)
  · rw [if_pos c3] at h
    refine J_ic 16 dX23_isNought_15 rfl (0 : Int32) kic_0 ?_
    exact jX23_isNought_c16 hγ l0 (0 : Int32) σ h
  · rw [if_neg c3] at h
    refine J_ic 12 dX23_isNought_11 rfl (1 : Int32) kic_1 ?_
    refine J_goto 16 dX23_isNought_12 (by decide) ?_
    exact jX23_isNought_c16 hγ l0 (1 : Int32) σ h
abbrev mX23_read : MP := (cX23_read, "MissCurves$OrderReader", 3, (Option.none : Option FieldType), 85, "read", [])
theorem ykX23_read : YK yX23_read mX23_read 1 := ⟨q1424, q170, ⟨by decide, by decide⟩, by decide +kernel, Nat.le_of_ble_eq_true rfl, by decide, rfl, rfl⟩
theorem pk_r_365 {nm9 : String} : POK "MissCurves$OrderReader" nm9 118 [22] 4 (.object "MissCurves$Test") := POK.one (by decide) rfl (Nat.le_of_ble_eq_true rfl) (Or.inr ⟨_, q1445⟩) rfl (by decide +kernel) (Or.inl rfl)
theorem fk_r_366 : FOK "MissCurves$OrderReader" 29 [23] 8 isR := FOK.one (by decide) rfl (Nat.le_of_ble_eq_true rfl) (Or.inl ⟨_, q2070, Or.inl rfl⟩) rfl
theorem pk_r_367 {nm9 : String} : POK "MissCurves$OrderReader" nm9 110 [22] 5 .int := POK.one (by decide) rfl (Nat.le_of_ble_eq_true rfl) (Or.inr ⟨_, q1447⟩) rfl (by decide +kernel) (Or.inl rfl)
def X23_read_c58  (l0 : Option Nat) (l1 : Int32) (l2 : Option Nat) (s0 : Option Nat) (s1 : Option Nat) (σ : Hp) : Option ((Nat ⊕ Unit) × Hp) :=
  (pR σ s0 [22] 4 s1).bind fun σ1 =>
  (gR σ1 l0 [23] 8).bind fun v2 =>
  (sR 13 σ1 v2 l1 l2).bind fun σ3 =>
  some (Sum.inr (), σ3)
set_option maxHeartbeats 4000000 in
theorem jX23_read_c58 {γ : GP} {σ0 : Hp} {q : ((Nat ⊕ Unit) × Hp)} (hγ : GOK γ) (l0 : Option Nat) (l1 : Int32) (l2 : Option Nat)  (s0 : Option Nat) (s1 : Option Nat) (σ : Hp) (h : X23_read_c58 l0 l1 l2 s0 s1 σ = some q) : J γ mX23_read (σ0, fxV q.1, q.2) σ 58 [(0, 1, va_rf l0), (1, 1, .int l1), (2, 1, va_rf l2)] [va_rf s1, va_rf s0] := by
  unfold X23_read_c58 at h
  obtain ⟨σ1, hσ1, h⟩ := some_of_bind h
  refine J_pR rfl 61 dX23_read_58 rfl pk_r_365 hσ1 ?_
  refine J_aload_n (i := 0) 0 62 dX23_read_61 rfl rfl rfl ?_
  obtain ⟨v2, hv2, h⟩ := some_of_bind h
  refine J_gR 65 dX23_read_62 rfl fk_r_366 hv2 ?_
  refine J_iload_n (i := 1) 1 66 dX23_read_65 rfl rfl rfl ?_
  refine J_aload_n (i := 2) 2 67 dX23_read_66 rfl rfl rfl ?_
  obtain ⟨σ3, hσ3, h⟩ := some_of_bind h
  refine J_aast 13 (by decide) (by decide) 68 dX23_read_67 rfl hσ3 ?_
  exact J_vret rfl dX23_read_68 (retVX h)
def X23_read_c40  (l0 : Option Nat) (l1 : Int32) (l2 : Option Nat)  (σ : Hp) : Option ((Nat ⊕ Unit) × Hp) :=
  (cT σ l0 23).bind fun b2 =>
  (X9_accept l0 (hst σ 128) σ).bind fun q1 =>
  if q1.1 = 0 then
    X23_read_c58  l0 l1 l2 l2 none q1.2
  else
    (cT q1.2 l0 23).bind fun b5 =>
    (X9_test 12 l0  q1.2).bind fun q4 =>
    bT q4 fun w6 =>
    X23_read_c58  l0 l1 l2 l2 w6 q4.2
set_option maxHeartbeats 4000000 in
theorem jX23_read_c40 {γ : GP} {σ0 : Hp} {q : ((Nat ⊕ Unit) × Hp)} (hγ : GOK γ) (l0 : Option Nat) (l1 : Int32) (l2 : Option Nat)   (σ : Hp) (h : X23_read_c40 l0 l1 l2 σ = some q) : J γ mX23_read (σ0, fxV q.1, q.2) σ 40 [(0, 1, va_rf l0), (1, 1, .int l1), (2, 1, va_rf l2)] [] := by
  unfold X23_read_c40 at h
  refine J_aload_n (i := 2) 2 41 dX23_read_40 rfl rfl rfl ?_
  refine J_aload_n (i := 0) 0 42 dX23_read_41 rfl rfl rfl ?_
  refine J_ldcS (k := 128) (tx := "if") (show (128, "MissCurves$OrderReader", 112, "if") ∈ strl by decide) 44 dX23_read_42 rfl ?_
  obtain ⟨b2, hb2, h⟩ := some_of_bind h
  obtain ⟨q1, hq1, h⟩ := some_of_bind h
  refine J_cUi (na := 1) (D := 7) 47 dX23_read_44 rfl q1431 q1432 q1327 ⟨by decide, by decide, by decide +kernel⟩ (Nat.le_of_ble_eq_true rfl) (cs_rf cs_nil) (by decide) [va_rf (hst σ 128)] rfl rfl (UR.of (c9 := 23) hb2 (by decide) rfl ykX9_accept q1433 q1233 (Nat.le_refl _) (sX9_accept hγ l0 (hst σ 128) σ q1 hq1)) ?_
  refine J_if_eq 57 50 dX23_read_47 (by decide) rfl (fun c3 => ?_) (fun c3 => ?_)
  · rw [if_pos c3] at h
    refine J_null 58 dX23_read_57 rfl ?_
    exact jX23_read_c58 hγ l0 l1 l2 l2 none q1.2 h
  · rw [if_neg c3] at h
    refine J_aload_n (i := 0) 0 51 dX23_read_50 rfl rfl rfl ?_
    obtain ⟨b5, hb5, h⟩ := some_of_bind h
    obtain ⟨q4, hq4, h⟩ := some_of_bind h
    rcases bT_of h with ⟨a7, ha7, ht, hq⟩ | ⟨w6, hw6, h⟩
    · exact J_cUT (na := 0) (D := 84) dX23_read_51 q1489 q1490 q1331 ⟨by decide, by decide, by decide +kernel⟩ (Nat.le_of_ble_eq_true rfl) (cs_rf cs_nil) (by decide) [] rfl rfl (UR.of (c9 := 23) hb5 (by decide) rfl (ykX9_test 12) q1491 q1333 (Nat.le_refl _) (by have hx := sX9_test hγ 12 l0  q1.2 q4 hq4; rw [ha7] at hx; exact hx)) (JT_out rfl ht (thrV hq))
    · refine J_cUr (na := 0) (D := 84) 54 dX23_read_51 rfl q1489 q1490 q1331 ⟨by decide, by decide, by decide +kernel⟩ (Nat.le_of_ble_eq_true rfl) (cs_rf cs_nil) (by decide) [] rfl rfl (UR.of (c9 := 23) hb5 (by decide) rfl (ykX9_test 12) q1491 q1333 (Nat.le_refl _) (by have hx := sX9_test hγ 12 l0  q1.2 q4 hq4; rw [hw6] at hx; exact hx)) ?_
      refine J_goto 58 dX23_read_54 (by decide) ?_
      exact jX23_read_c58 hγ l0 l1 l2 l2 w6 q4.2 h
def X23_read_c27  (l0 : Option Nat) (l1 : Int32) (l2 : Option Nat) (s0 : Option Nat) (s1 : Int32) (σ : Hp) : Option ((Nat ⊕ Unit) × Hp) :=
  (cT σ s0 23).bind fun b2 =>
  (X9_must s0 s1 σ).bind fun q1 =>
  bT q1 fun w3 =>
  (cT q1.2 l0 23).bind fun b6 =>
  (X9_number l0 (20 : Int32) q1.2).bind fun q5 =>
  bT q5 fun w7 =>
  (pI q5.2 l2 [22] 5 w7).bind fun σ9 =>
  X23_read_c40  l0 l1 l2  σ9
set_option maxHeartbeats 4000000 in
theorem jX23_read_c27 {γ : GP} {σ0 : Hp} {q : ((Nat ⊕ Unit) × Hp)} (hγ : GOK γ) (l0 : Option Nat) (l1 : Int32) (l2 : Option Nat)  (s0 : Option Nat) (s1 : Int32) (σ : Hp) (h : X23_read_c27 l0 l1 l2 s0 s1 σ = some q) : J γ mX23_read (σ0, fxV q.1, q.2) σ 27 [(0, 1, va_rf l0), (1, 1, .int l1), (2, 1, va_rf l2)] [.int s1, va_rf s0] := by
  unfold X23_read_c27 at h
  obtain ⟨b2, hb2, h⟩ := some_of_bind h
  obtain ⟨q1, hq1, h⟩ := some_of_bind h
  rcases bT_of h with ⟨a4, ha4, ht, hq⟩ | ⟨w3, hw3, h⟩
  · exact J_cUT (na := 1) (D := 4) dX23_read_27 q1471 q1472 q1201 ⟨by decide, by decide, by decide +kernel⟩ (Nat.le_of_ble_eq_true rfl) cs_nil (by decide) [.int s1] rfl rfl (UR.of (c9 := 23) hb2 (by decide) rfl ykX9_must q1473 q1133 (Nat.le_refl _) (by have hx := sX9_must hγ s0 s1 σ q1 hq1; rw [ha4] at hx; exact hx)) (JT_out rfl ht (thrV hq))
  · refine J_cUv (na := 1) (D := 4) 30 dX23_read_27 rfl q1471 q1472 q1201 ⟨by decide, by decide, by decide +kernel⟩ (Nat.le_of_ble_eq_true rfl) cs_nil (by decide) [.int s1] rfl rfl (UR.of (c9 := 23) hb2 (by decide) rfl ykX9_must q1473 q1133 (Nat.le_refl _) (by have hx := sX9_must hγ s0 s1 σ q1 hq1; rw [hw3] at hx; exact hx)) ?_
    refine J_aload_n (i := 2) 2 31 dX23_read_30 rfl rfl rfl ?_
    refine J_aload_n (i := 0) 0 32 dX23_read_31 rfl rfl rfl ?_
    refine J_bipush 34 dX23_read_32 rfl (20 : Int32) kbp_20 ?_
    obtain ⟨b6, hb6, h⟩ := some_of_bind h
    obtain ⟨q5, hq5, h⟩ := some_of_bind h
    rcases bT_of h with ⟨a8, ha8, ht, hq⟩ | ⟨w7, hw7, h⟩
    · exact J_cUT (na := 1) (D := 5) dX23_read_34 q1281 q1282 q1283 ⟨by decide, by decide, by decide +kernel⟩ (Nat.le_of_ble_eq_true rfl) (cs_rf cs_nil) (by decide) [.int (20 : Int32)] rfl rfl (UR.of (c9 := 23) hb6 (by decide) rfl ykX9_number q1284 q1246 (Nat.le_refl _) (by have hx := sX9_number hγ l0 (20 : Int32) q1.2 q5 hq5; rw [ha8] at hx; exact hx)) (JT_out rfl ht (thrV hq))
    · refine J_cUi (na := 1) (D := 5) 37 dX23_read_34 rfl q1281 q1282 q1283 ⟨by decide, by decide, by decide +kernel⟩ (Nat.le_of_ble_eq_true rfl) (cs_rf cs_nil) (by decide) [.int (20 : Int32)] rfl rfl (UR.of (c9 := 23) hb6 (by decide) rfl ykX9_number q1284 q1246 (Nat.le_refl _) (by have hx := sX9_number hγ l0 (20 : Int32) q1.2 q5 hq5; rw [hw7] at hx; exact hx)) ?_
      obtain ⟨σ9, hσ9, h⟩ := some_of_bind h
      refine J_pI 40 dX23_read_37 rfl pk_r_367 hσ9 ?_
      exact jX23_read_c40 hγ l0 l1 l2  σ9 h
def X23_read (l0 : Option Nat) (l1 : Int32) (σ : Hp) : Option ((Nat ⊕ Unit) × Hp) :=
  (cT σ l0 23).bind fun b2 =>
  (X23_act l0  σ).bind fun q1 =>
  bT q1 fun w3 =>
  (cT q1.2 l0 23).bind fun b6 =>
  (X9_accept l0 (hst q1.2 145) q1.2).bind fun q5 =>
  if q5.1 = 0 then
    X23_read_c40  l0 l1 w3  q5.2
  else
    (cT q5.2 l0 23).bind fun b9 =>
    (X23_isNought l0  q5.2).bind fun q8 =>
    if q8.1 = 0 then
      X23_read_c27  l0 l1 w3 l0 (1 : Int32) q8.2
    else
      X23_read_c27  l0 l1 w3 l0 (0 : Int32) q8.2
set_option maxHeartbeats 4000000 in
theorem sX23_read {γ : GP} (hγ : GOK γ) (l0 : Option Nat) (l1 : Int32) (σ : Hp) (q : ((Nat ⊕ Unit) × Hp)) (h : X23_read l0 l1 σ = some q) : Rn γ mX23_read yX23_read [va_rf l0, .int l1] (σ, fxV q.1, q.2) := by
  refine J_mX hγ ykX23_read rfl [(1, va_rf l0), (1, .int l1)] (cats_r (cats_i cats_nil)) (Nat.le_of_ble_eq_true rfl) ?_
  show J γ mX23_read _ σ 0 [(0, 1, va_rf l0), (1, 1, .int l1)] []
  unfold X23_read at h
  refine J_aload_n (i := 0) 0 1 dX23_read_0 rfl rfl rfl ?_
  obtain ⟨b2, hb2, h⟩ := some_of_bind h
  obtain ⟨q1, hq1, h⟩ := some_of_bind h
  rcases bT_of h with ⟨a4, ha4, ht, hq⟩ | ⟨w3, hw3, h⟩
  · exact J_cWT dX23_read_1 ykX23_act (Or.inl q1425) q1427 (Nat.le_of_ble_eq_true rfl) cs_nil (by decide) [] (RC.one hb2 (by decide) rfl qs15) rfl rfl (by have hx := sX23_act hγ l0  σ q1 hq1; rw [ha4] at hx; exact hx) (JT_out rfl ht (thrV hq))
  · refine J_cWr 4 dX23_read_1 rfl ykX23_act (Or.inl q1425) q1427 (Nat.le_of_ble_eq_true rfl) cs_nil (by decide) [] (RC.one hb2 (by decide) rfl qs15) rfl rfl (by have hx := sX23_act hγ l0  σ q1 hq1; rw [hw3] at hx; exact hx) ?_
    refine J_astore_n (i := 2) 5 [(2, 1, va_rf w3), (0, 1, va_rf l0), (1, 1, .int l1)] dX23_read_4 rfl rfl (Nat.le_of_ble_eq_true rfl) rfl ?_
    refine J_aload_n (i := 0) 1 6 dX23_read_5 rfl rfl rfl ?_
    refine J_ldcS (k := 145) (tx := "times") (show (145, "MissCurves$OrderReader", 104, "times") ∈ strl by decide) 8 dX23_read_6 rfl ?_
    obtain ⟨b6, hb6, h⟩ := some_of_bind h
    obtain ⟨q5, hq5, h⟩ := some_of_bind h
    refine J_cUi (na := 1) (D := 7) 11 dX23_read_8 rfl q1431 q1432 q1327 ⟨by decide, by decide, by decide +kernel⟩ (Nat.le_of_ble_eq_true rfl) cs_nil (by decide) [va_rf (hst q1.2 145)] rfl rfl (UR.of (c9 := 23) hb6 (by decide) rfl ykX9_accept q1433 q1233 (Nat.le_refl _) (sX9_accept hγ l0 (hst q1.2 145) q1.2 q5 hq5)) ?_
    refine J_if_eq 40 14 dX23_read_11 (by decide) rfl (fun c7 => ?_) (fun c7 => ?_)
    · rw [if_pos c7] at h
      refine J.pick [1, 2, 0] rfl ?_
      exact jX23_read_c40 hγ l0 l1 w3  q5.2 h
    · rw [if_neg c7] at h
      refine J_aload_n (i := 0) 1 15 dX23_read_14 rfl rfl rfl ?_
      refine J_aload_n (i := 0) 1 16 dX23_read_15 rfl rfl rfl ?_
      obtain ⟨b9, hb9, h⟩ := some_of_bind h
      obtain ⟨q8, hq8, h⟩ := some_of_bind h
      refine J_cVi 19 dX23_read_16 rfl ykX23_isNought (Or.inl q1484) q1486 qs17 (Nat.le_of_ble_eq_true rfl) (cs_rf cs_nil) (by decide) [] hb9 (by decide) rfl rfl rfl (sX23_isNought hγ l0  q5.2 q8 hq8) ?_
      refine J_if_ne 26 22 dX23_read_19 (by decide) rfl (fun c10 => ?_) (fun c10 => ?_)
      · rw [if_neg c10] at h
        refine J_ic 27 dX23_read_26 rfl (0 : Int32) kic_0 ?_
        refine J.pick [1, 2, 0] rfl ?_
        exact jX23_read_c27 hγ l0 l1 w3 l0 (0 : Int32) q8.2 h
      · rw [if_pos c10] at h
        refine J_ic 23 dX23_read_22 rfl (1 : Int32) kic_1 ?_
        refine J_goto 27 dX23_read_23 (by decide) ?_
        refine J.pick [1, 2, 0] rfl ?_
        exact jX23_read_c27 hγ l0 l1 w3 l0 (1 : Int32) q8.2 h
def vRead (x0 : Option Nat) (x1 : Int32) (σ : Hp) : Option ((Nat ⊕ Unit) × Hp) := x0.bind fun a => if htg σ a = 10 then X10_read_2 x0 x1 σ else if htg σ a = 23 then X23_read x0 x1 σ else none
theorem svRead {γ : GP} (hγ : GOK γ) (x0 : Option Nat) (x1 : Int32) (σ : Hp) (q : ((Nat ⊕ Unit) × Hp)) (h : vRead x0 x1 σ = some q) : UR γ 85 ({ cls := "MissCurves$Reader", name := "read", desc := "(I)V" } : MethodName) 1 x0 [.int x1] (σ, fxV q.1, q.2) := by
  unfold vRead at h
  obtain ⟨a, ha, h⟩ := some_of_bind h
  rcases Classical.em (htg σ a = 10) with c0 | c0
  · rw [if_pos c0] at h
    exact (UR.of (c9 := 10) (b := a) (show cT σ x0 10 = some a by rw [ha]; exact if_pos c0) (by decide) rfl ykX10_read_2 q1165 q1166 (show 85 ≤ 85 by omega) (sX10_read_2 hγ x0 x1 σ q h))
  · rw [if_neg c0] at h
    rcases Classical.em (htg σ a = 23) with c1 | c1
    · rw [if_pos c1] at h
      exact (UR.of (c9 := 23) (b := a) (show cT σ x0 23 = some a by rw [ha]; exact if_pos c1) (by decide) rfl ykX23_read q1422 q1423 (show 85 ≤ 85 by omega) (sX23_read hγ x0 x1 σ q h))
    · rw [if_neg c1] at h
      cases h
abbrev mX9_readAll : MP := (cX9_readAll, "MissCurves$Reader", 2, (Option.some FieldType.int), 86, "readAll", [])
theorem ykX9_readAll : YK yX9_readAll mX9_readAll 0 := ⟨q1119, q156, ⟨by decide, by decide⟩, by decide +kernel, Nat.le_of_ble_eq_true rfl, by decide, rfl, rfl⟩
def X9_readAll_c18 (k6 : Int32 → Hp → Option ((Nat ⊕ Int32) × Hp)) (k38 : Int32 → Hp → Option ((Nat ⊕ Int32) × Hp)) (l0 : Option Nat) (l1 : Int32) (s0 : Option Nat) (s1 : Int32) (σ : Hp) : Option ((Nat ⊕ Int32) × Hp) :=
  (cT2 σ s0 10 23).bind fun b2 =>
  (X9_must s0 s1 σ).bind fun q1 =>
  bT q1 fun w3 =>
  (vRead l0 l1 q1.2).bind fun q5 =>
  bT q5 fun w6 =>
  (cT2 q5.2 l0 10 23).bind fun b9 =>
  (X9_accept l0 (hst q5.2 112) q5.2).bind fun q8 =>
  if q8.1 = 0 then
    k38 (l1 + (1 : Int32)) q8.2
  else
    k6 (l1 + (1 : Int32)) q8.2
set_option maxHeartbeats 4000000 in
theorem jX9_readAll_c18 {γ : GP} {σ0 : Hp} {q : ((Nat ⊕ Int32) × Hp)} (hγ : GOK γ) (l0 : Option Nat) (l1 : Int32) {k6 : Int32 → Hp → Option ((Nat ⊕ Int32) × Hp)} {k38 : Int32 → Hp → Option ((Nat ⊕ Int32) × Hp)} (hk6 : ∀ (l1 : Int32) (σ : Hp), k6 l1 σ = some q → J γ mX9_readAll (σ0, fxI q.1, q.2) σ 6 [(0, 1, va_rf l0), (1, 1, .int l1)] []) (hk38 : ∀ (l1 : Int32) (σ : Hp), k38 l1 σ = some q → J γ mX9_readAll (σ0, fxI q.1, q.2) σ 38 [(0, 1, va_rf l0), (1, 1, .int l1)] []) (s0 : Option Nat) (s1 : Int32) (σ : Hp) (h : X9_readAll_c18 k6 k38 l0 l1 s0 s1 σ = some q) : J γ mX9_readAll (σ0, fxI q.1, q.2) σ 18 [(0, 1, va_rf l0), (1, 1, .int l1)] [.int s1, va_rf s0] := by
  unfold X9_readAll_c18 at h
  obtain ⟨b2, hb2, h⟩ := some_of_bind h
  obtain ⟨q1, hq1, h⟩ := some_of_bind h
  rcases bT_of h with ⟨a4, ha4, ht, hq⟩ | ⟨w3, hw3, h⟩
  · exact J_cWT dX9_readAll_18 ykX9_must (Or.inl q1132) q1133 (Nat.le_of_ble_eq_true rfl) cs_nil (by decide) [.int s1] (RC.two hb2 (by decide) (by decide) rfl rfl q1135 q1136) rfl rfl (by have hx := sX9_must hγ s0 s1 σ q1 hq1; rw [ha4] at hx; exact hx) (JT_out rfl ht (thrI hq))
  · refine J_cWv 21 dX9_readAll_18 rfl ykX9_must (Or.inl q1132) q1133 (Nat.le_of_ble_eq_true rfl) cs_nil (by decide) [.int s1] (RC.two hb2 (by decide) (by decide) rfl rfl q1135 q1136) rfl rfl (by have hx := sX9_must hγ s0 s1 σ q1 hq1; rw [hw3] at hx; exact hx) ?_
    refine J_aload_n (i := 0) 0 22 dX9_readAll_21 rfl rfl rfl ?_
    refine J_iload_n (i := 1) 1 23 dX9_readAll_22 rfl rfl rfl ?_
    obtain ⟨q5, hq5, h⟩ := some_of_bind h
    rcases bT_of h with ⟨a7, ha7, ht, hq⟩ | ⟨w6, hw6, h⟩
    · exact J_cUT (na := 1) dX9_readAll_23 q1162 q1164 q1163 ⟨by decide, by decide, by decide +kernel⟩ (show (85) + 1 ≤ 86 by omega) cs_nil (by decide) [.int l1] rfl rfl (by have hx := svRead hγ l0 l1 q1.2 q5 hq5; rw [ha7] at hx; exact hx) (JT_out rfl ht (thrI hq))
    · refine J_cUv (na := 1) 26 dX9_readAll_23 rfl q1162 q1164 q1163 ⟨by decide, by decide, by decide +kernel⟩ (show (85) + 1 ≤ 86 by omega) cs_nil (by decide) [.int l1] rfl rfl (by have hx := svRead hγ l0 l1 q1.2 q5 hq5; rw [hw6] at hx; exact hx) ?_
      refine J_iinc (i := 1) (v := l1 + (1 : Int32)) 1 29 [(1, 1, .int (l1 + (1 : Int32))), (0, 1, va_rf l0)] dX9_readAll_26 rfl rfl (Nat.le_of_ble_eq_true rfl) (by rw [kic_1]) rfl ?_
      refine J_aload_n (i := 0) 1 30 dX9_readAll_29 rfl rfl rfl ?_
      refine J_ldcS (k := 112) (tx := ";") (show (112, "MissCurves$Reader", 36, ";") ∈ strl by decide) 32 dX9_readAll_30 rfl ?_
      obtain ⟨b9, hb9, h⟩ := some_of_bind h
      obtain ⟨q8, hq8, h⟩ := some_of_bind h
      refine J_cWi 35 dX9_readAll_32 rfl ykX9_accept (Or.inl q1232) q1233 (Nat.le_of_ble_eq_true rfl) cs_nil (by decide) [va_rf (hst q5.2 112)] (RC.two hb9 (by decide) (by decide) rfl rfl q1235 q1236) rfl rfl (sX9_accept hγ l0 (hst q5.2 112) q5.2 q8 hq8) ?_
      refine J_if_ne 6 38 dX9_readAll_35 (by decide) rfl (fun c10 => ?_) (fun c10 => ?_)
      · rw [if_neg c10] at h
        refine J.pick [1, 0] rfl ?_
        exact hk6 (l1 + (1 : Int32)) q8.2 h
      · rw [if_pos c10] at h
        refine J.pick [1, 0] rfl ?_
        exact hk38 (l1 + (1 : Int32)) q8.2 h
def X9_readAll_c6 (l0 : Option Nat) (k38 : Int32 → Hp → Option ((Nat ⊕ Int32) × Hp)) : Nat → Int32 → Hp → Option ((Nat ⊕ Int32) × Hp)
  | 0, _, _ => none
  | n + 1, l1, σ =>
    if (12 : Int32) ≤ l1 then
      X9_readAll_c18 (X9_readAll_c6 l0 k38 n) k38 l0 l1 l0 (0 : Int32) σ
    else
      X9_readAll_c18 (X9_readAll_c6 l0 k38 n) k38 l0 l1 l0 (1 : Int32) σ
set_option maxHeartbeats 4000000 in
theorem jX9_readAll_c6 {γ : GP} {σ0 : Hp} {q : ((Nat ⊕ Int32) × Hp)} (hγ : GOK γ) (l0 : Option Nat) {k38 : Int32 → Hp → Option ((Nat ⊕ Int32) × Hp)} (hk38 : ∀ (l1 : Int32) (σ : Hp), k38 l1 σ = some q → J γ mX9_readAll (σ0, fxI q.1, q.2) σ 38 [(0, 1, va_rf l0), (1, 1, .int l1)] []) : ∀ (n : Nat) (l1 : Int32) (σ : Hp), X9_readAll_c6 l0 k38 n l1 σ = some q → J γ mX9_readAll (σ0, fxI q.1, q.2) σ 6 [(0, 1, va_rf l0), (1, 1, .int l1)] [] := by
  intro n
  induction n with
  | zero => intro l1 σ h; exact nomatch (show none = some q from h)
  | succ n ih =>
    intro l1 σ h
    rw [X9_readAll_c6] at h
    refine J_aload_n (i := 0) 0 7 dX9_readAll_6 rfl rfl rfl ?_
    refine J_iload_n (i := 1) 1 8 dX9_readAll_7 rfl rfl rfl ?_
    refine J_bipush 10 dX9_readAll_8 rfl (12 : Int32) kbp_12 ?_
    refine J_icmp_ge 17 13 dX9_readAll_10 (by decide) rfl (fun c1 => ?_) (fun c1 => ?_)
    · rw [if_pos c1] at h
      refine J_ic 18 dX9_readAll_17 rfl (0 : Int32) kic_0 ?_
      exact jX9_readAll_c18 hγ l0 l1 ih hk38 l0 (0 : Int32) σ h
    · rw [if_neg c1] at h
      refine J_ic 14 dX9_readAll_13 rfl (1 : Int32) kic_1 ?_
      refine J_goto 18 dX9_readAll_14 (by decide) ?_
      exact jX9_readAll_c18 hγ l0 l1 ih hk38 l0 (1 : Int32) σ h
def X9_readAll_c58  (l1 : Int32) (s0 : Option Nat) (s1 : Int32) (σ : Hp) : Option ((Nat ⊕ Int32) × Hp) :=
  (cT2 σ s0 10 23).bind fun b2 =>
  (X9_must s0 s1 σ).bind fun q1 =>
  bT q1 fun w3 =>
  some (Sum.inr l1, q1.2)
set_option maxHeartbeats 4000000 in
theorem jX9_readAll_c58 {γ : GP} {σ0 : Hp} {q : ((Nat ⊕ Int32) × Hp)} (hγ : GOK γ) (l1 : Int32)  (s0 : Option Nat) (s1 : Int32) (σ : Hp) (h : X9_readAll_c58 l1 s0 s1 σ = some q) : J γ mX9_readAll (σ0, fxI q.1, q.2) σ 58 [(1, 1, .int l1)] [.int s1, va_rf s0] := by
  unfold X9_readAll_c58 at h
  obtain ⟨b2, hb2, h⟩ := some_of_bind h
  obtain ⟨q1, hq1, h⟩ := some_of_bind h
  rcases bT_of h with ⟨a4, ha4, ht, hq⟩ | ⟨w3, hw3, h⟩
  · exact J_cWT dX9_readAll_58 ykX9_must (Or.inl q1132) q1133 (Nat.le_of_ble_eq_true rfl) cs_nil (by decide) [.int s1] (RC.two hb2 (by decide) (by decide) rfl rfl q1135 q1136) rfl rfl (by have hx := sX9_must hγ s0 s1 σ q1 hq1; rw [ha4] at hx; exact hx) (JT_out rfl ht (thrI hq))
  · refine J_cWv 61 dX9_readAll_58 rfl ykX9_must (Or.inl q1132) q1133 (Nat.le_of_ble_eq_true rfl) cs_nil (by decide) [.int s1] (RC.two hb2 (by decide) (by decide) rfl rfl q1135 q1136) rfl rfl (by have hx := sX9_must hγ s0 s1 σ q1 hq1; rw [hw3] at hx; exact hx) ?_
    refine J_iload_n (i := 1) 0 62 dX9_readAll_61 rfl rfl rfl ?_
    exact J_iret rfl dX9_readAll_62 (retIX h)
def X9_readAll (l0 : Option Nat) (σ : Hp) : Option ((Nat ⊕ Int32) × Hp) :=
  (cT2 σ l0 10 23).bind fun b2 =>
  (X9_next l0  σ).bind fun q1 =>
  X9_readAll_c6 l0 (fun x3 τ4 =>
    (gI τ4 l0 [10, 23] 0).bind fun v5 =>
    (gR τ4 l0 [10, 23] 7).bind fun v6 =>
    (gI τ4 v6 [0] 15).bind fun v7 =>
    if v5 = v7 then
      X9_readAll_c58  x3 l0 (1 : Int32) τ4
    else
      X9_readAll_c58  x3 l0 (0 : Int32) τ4) FUEL (0 : Int32) q1
set_option maxHeartbeats 4000000 in
theorem sX9_readAll {γ : GP} (hγ : GOK γ) (l0 : Option Nat) (σ : Hp) (q : ((Nat ⊕ Int32) × Hp)) (h : X9_readAll l0 σ = some q) : Rn γ mX9_readAll yX9_readAll [va_rf l0] (σ, fxI q.1, q.2) := by
  refine J_mX hγ ykX9_readAll rfl [(1, va_rf l0)] (cats_r cats_nil) (Nat.le_of_ble_eq_true rfl) ?_
  show J γ mX9_readAll _ σ 0 [(0, 1, va_rf l0)] []
  unfold X9_readAll at h
  refine J_ic 1 dX9_readAll_0 rfl (0 : Int32) kic_0 ?_
  refine J_istore_n (i := 1) 2 [(1, 1, .int (0 : Int32)), (0, 1, va_rf l0)] dX9_readAll_1 rfl rfl (Nat.le_of_ble_eq_true rfl) rfl ?_
  refine J_aload_n (i := 0) 1 3 dX9_readAll_2 rfl rfl rfl ?_
  obtain ⟨b2, hb2, h⟩ := some_of_bind h
  obtain ⟨q1, hq1, h⟩ := some_of_bind h
  refine J_cWv 6 dX9_readAll_3 rfl ykX9_next (Or.inl q1120) q1121 (Nat.le_of_ble_eq_true rfl) cs_nil (by decide) [] (RC.two hb2 (by decide) (by decide) rfl rfl q1123 q1124) rfl rfl (sX9_next hγ l0  σ q1 hq1) ?_
  refine J.pick [1, 0] rfl ?_
  refine jX9_readAll_c6 hγ l0 (fun x3 τ4 h => ?_) FUEL (0 : Int32) q1 h
  · refine J_aload_n (i := 0) 0 39 dX9_readAll_38 rfl rfl rfl ?_
    refine J_aload_n (i := 0) 0 40 dX9_readAll_39 rfl rfl rfl ?_
    obtain ⟨v5, hv5, h⟩ := some_of_bind h
    refine J_gI 43 dX9_readAll_40 rfl fk_r_318 hv5 ?_
    refine J_aload_n (i := 0) 0 44 dX9_readAll_43 rfl rfl rfl ?_
    obtain ⟨v6, hv6, h⟩ := some_of_bind h
    refine J_gR 47 dX9_readAll_44 rfl fk_r_316 hv6 ?_
    obtain ⟨v7, hv7, h⟩ := some_of_bind h
    refine J_gI 50 dX9_readAll_47 rfl fk_r_325 hv7 ?_
    refine J_icmp_ne 57 53 dX9_readAll_50 (by decide) rfl (fun c8 => ?_) (fun c8 => ?_)
    · rw [if_neg c8] at h
      refine J_ic 58 dX9_readAll_57 rfl (0 : Int32) kic_0 ?_
      refine J.pick [1] rfl ?_
      exact jX9_readAll_c58 hγ x3 l0 (0 : Int32) τ4 h
    · rw [if_pos c8] at h
      refine J_ic 54 dX9_readAll_53 rfl (1 : Int32) kic_1 ?_
      refine J_goto 58 dX9_readAll_54 (by decide) ?_
      refine J.pick [1] rfl ?_
      exact jX9_readAll_c58 hγ x3 l0 (1 : Int32) τ4 h
abbrev mX6_init : MP := (cX6_init, "MissCurves$Text", 2, (Option.none : Option FieldType), 1, "<init>", [])
theorem ykX6_init : YK yX6_init mX6_init 1 := ⟨q370, q137, ⟨by decide, by decide⟩, by decide +kernel, Nat.le_of_ble_eq_true rfl, by decide, rfl, rfl⟩
theorem pk_r_368 : POK "MissCurves$Text" "<init>" 7 [6] 0 (.array (.object "MissCurves$Clause")) := POK.one (by decide) rfl (Nat.le_of_ble_eq_true rfl) (Or.inl ⟨_, q372, Or.inl rfl⟩) rfl (by decide +kernel) (Or.inr ⟨rfl, rfl, rfl, _, q372, Or.inl rfl⟩)
def X6_init (l0 : Option Nat) (l1 : Option Nat) (σ : Hp) : Option Hp :=
  l0.bind fun b1 =>
  (pR σ l0 [6] 0 l1).bind fun σ2 =>
  some σ2
set_option maxHeartbeats 4000000 in
theorem sX6_init {γ : GP} (hγ : GOK γ) (l0 : Option Nat) (l1 : Option Nat) (σ : Hp) (q : Hp) (h : X6_init l0 l1 σ = some q) : Rn γ mX6_init yX6_init [va_rf l0, va_rf l1] (σ, .inr none, q) := by
  refine J_m hγ ykX6_init rfl [(1, va_rf l0), (1, va_rf l1)] (cats_r (cats_r cats_nil)) (Nat.le_of_ble_eq_true rfl) ?_
  show J γ mX6_init _ σ 0 [(0, 1, va_rf l0), (1, 1, va_rf l1)] []
  unfold X6_init at h
  refine J_aload_n (i := 0) 0 1 dX6_init_0 rfl rfl rfl ?_
  obtain ⟨b1, hb1, h⟩ := some_of_bind h
  refine J_oI hb1 q371 (Nat.le_of_ble_eq_true rfl) cs_nil (by decide) 4 dX6_init_1 rfl ?_
  refine J_aload_n (i := 0) 0 5 dX6_init_4 rfl rfl rfl ?_
  refine J_aload_n (i := 1) 1 6 dX6_init_5 rfl rfl rfl ?_
  obtain ⟨σ2, hσ2, h⟩ := some_of_bind h
  refine J_pR rfl 9 dX6_init_6 rfl pk_r_368 hσ2 ?_
  exact J_vret rfl dX6_init_9 (retV h)
abbrev mX10_read : MP := (cX10_read, "MissCurves$LawReader", 2, (Option.some (FieldType.object "MissCurves$Text")), 87, "read", [])
theorem ykX10_read : YK yX10_read mX10_read 0 := ⟨q1113, q157, ⟨by decide, by decide⟩, by decide +kernel, Nat.le_of_ble_eq_true rfl, by decide, rfl, rfl⟩
def X10_read (l0 : Option Nat) (σ : Hp) : Option ((Nat ⊕ Option Nat) × Hp) :=
  (cT σ l0 10).bind fun b2 =>
  (X9_readAll l0  σ).bind fun q1 =>
  bT q1 fun w3 =>
  (nA 10 q1.2 w3).bind fun σ5 =>
  (gR σ5 l0 [10] 8).bind fun v6 =>
  (aN σ5 (some (hsz q1.2))).bind fun v7 =>
  (cpR 10 10 σ5 v6 (0 : Int32) (some (hsz q1.2)) (0 : Int32) v7).bind fun σ8 =>
  (some (hsz σ8)).bind fun b10 =>
  (X6_init (some (hsz σ8)) (some (hsz q1.2)) (wN σ8 6 0 1)).bind fun q9 =>
  some (Sum.inr (some (hsz σ8)), q9)
set_option maxHeartbeats 4000000 in
theorem sX10_read {γ : GP} (hγ : GOK γ) (l0 : Option Nat) (σ : Hp) (q : ((Nat ⊕ Option Nat) × Hp)) (h : X10_read l0 σ = some q) : Rn γ mX10_read yX10_read [va_rf l0] (σ, fxR q.1, q.2) := by
  refine J_mX hγ ykX10_read rfl [(1, va_rf l0)] (cats_r cats_nil) (Nat.le_of_ble_eq_true rfl) ?_
  show J γ mX10_read _ σ 0 [(0, 1, va_rf l0)] []
  unfold X10_read at h
  refine J_aload_n (i := 0) 0 1 dX10_read_0 rfl rfl rfl ?_
  obtain ⟨b2, hb2, h⟩ := some_of_bind h
  obtain ⟨q1, hq1, h⟩ := some_of_bind h
  rcases bT_of h with ⟨a4, ha4, ht, hq⟩ | ⟨w3, hw3, h⟩
  · exact J_cUT (na := 0) (D := 86) dX10_read_1 q1114 q1115 q1116 ⟨by decide, by decide, by decide +kernel⟩ (Nat.le_of_ble_eq_true rfl) cs_nil (by decide) [] rfl rfl (UR.of (c9 := 10) hb2 (by decide) rfl ykX9_readAll q1117 q1118 (Nat.le_refl _) (by have hx := sX9_readAll hγ l0  σ q1 hq1; rw [ha4] at hx; exact hx)) (JT_out rfl ht (thrR hq))
  · refine J_cUi (na := 0) (D := 86) 4 dX10_read_1 rfl q1114 q1115 q1116 ⟨by decide, by decide, by decide +kernel⟩ (Nat.le_of_ble_eq_true rfl) cs_nil (by decide) [] rfl rfl (UR.of (c9 := 10) hb2 (by decide) rfl ykX9_readAll q1117 q1118 (Nat.le_refl _) (by have hx := sX9_readAll hγ l0  σ q1 hq1; rw [hw3] at hx; exact hx)) ?_
    obtain ⟨σ5, hσ5, h⟩ := some_of_bind h
    refine J_anew 10 (by decide) (by decide) rfl q1069 q367 7 dX10_read_4 rfl hσ5 ?_
    refine J_astore_n (i := 1) 8 [(1, 1, va_rf (some (hsz q1.2))), (0, 1, va_rf l0)] dX10_read_7 rfl rfl (Nat.le_of_ble_eq_true rfl) rfl ?_
    refine J_aload_n (i := 0) 1 9 dX10_read_8 rfl rfl rfl ?_
    obtain ⟨v6, hv6, h⟩ := some_of_bind h
    refine J_gR 12 dX10_read_9 rfl fk_r_354 hv6 ?_
    refine J_ic 13 dX10_read_12 rfl (0 : Int32) kic_0 ?_
    refine J_aload_n (i := 1) 0 14 dX10_read_13 rfl rfl rfl ?_
    refine J_ic 15 dX10_read_14 rfl (0 : Int32) kic_0 ?_
    refine J_aload_n (i := 1) 0 16 dX10_read_15 rfl rfl rfl ?_
    obtain ⟨v7, hv7, h⟩ := some_of_bind h
    refine J_alen 17 dX10_read_16 rfl hv7 ?_
    obtain ⟨σ8, hσ8, h⟩ := some_of_bind h
    refine J_cpR 10 10 (by decide) (by decide) (by decide) (by decide) q1493 (Nat.le_of_ble_eq_true rfl) cs_nil (by decide) 20 dX10_read_17 rfl hσ8 ?_
    refine J_new (c9 := 6) (nsl := 1) rfl (by decide) (by decide +kernel) q1494 q365 q137 23 dX10_read_20 rfl ?_
    refine J_dupr 24 dX10_read_23 rfl ?_
    refine J_aload_n (i := 1) 0 25 dX10_read_24 rfl rfl rfl ?_
    obtain ⟨b10, hb10, h⟩ := some_of_bind h
    obtain ⟨q9, hq9, h⟩ := some_of_bind h
    refine J_cI 28 dX10_read_25 rfl ykX6_init rfl (Or.inl q1495) q369 rfl (Nat.le_of_ble_eq_true rfl) (cs_rf cs_nil) (by decide) [va_rf (some (hsz q1.2))] hb10 rfl rfl (sX6_init hγ (some (hsz σ8)) (some (hsz q1.2)) (wN σ8 6 0 1) q9 hq9) ?_
    exact J_aret rfl (Or.inl ⟨_, rfl⟩) dX10_read_28 (retRX h)
abbrev mX23_read_2 : MP := (cX23_read_2, "MissCurves$OrderReader", 2, (Option.some (FieldType.array (FieldType.object "MissCurves$Act"))), 87, "read", [])
theorem ykX23_read_2 : YK yX23_read_2 mX23_read_2 0 := ⟨q2088, q170, ⟨by decide, by decide⟩, by decide +kernel, Nat.le_of_ble_eq_true rfl, by decide, rfl, rfl⟩
def X23_read_2 (l0 : Option Nat) (σ : Hp) : Option ((Nat ⊕ Option Nat) × Hp) :=
  (cT σ l0 23).bind fun b2 =>
  (X9_readAll l0  σ).bind fun q1 =>
  bT q1 fun w3 =>
  (nA 13 q1.2 w3).bind fun σ5 =>
  (gR σ5 l0 [23] 8).bind fun v6 =>
  (aN σ5 (some (hsz q1.2))).bind fun v7 =>
  (cpR 13 13 σ5 v6 (0 : Int32) (some (hsz q1.2)) (0 : Int32) v7).bind fun σ8 =>
  some (Sum.inr (some (hsz q1.2)), σ8)
set_option maxHeartbeats 4000000 in
theorem sX23_read_2 {γ : GP} (hγ : GOK γ) (l0 : Option Nat) (σ : Hp) (q : ((Nat ⊕ Option Nat) × Hp)) (h : X23_read_2 l0 σ = some q) : Rn γ mX23_read_2 yX23_read_2 [va_rf l0] (σ, fxR q.1, q.2) := by
  refine J_mX hγ ykX23_read_2 rfl [(1, va_rf l0)] (cats_r cats_nil) (Nat.le_of_ble_eq_true rfl) ?_
  show J γ mX23_read_2 _ σ 0 [(0, 1, va_rf l0)] []
  unfold X23_read_2 at h
  refine J_aload_n (i := 0) 0 1 dX23_read_2_0 rfl rfl rfl ?_
  obtain ⟨b2, hb2, h⟩ := some_of_bind h
  obtain ⟨q1, hq1, h⟩ := some_of_bind h
  rcases bT_of h with ⟨a4, ha4, ht, hq⟩ | ⟨w3, hw3, h⟩
  · exact J_cUT (na := 0) (D := 86) dX23_read_2_1 q2089 q2090 q1116 ⟨by decide, by decide, by decide +kernel⟩ (Nat.le_of_ble_eq_true rfl) cs_nil (by decide) [] rfl rfl (UR.of (c9 := 23) hb2 (by decide) rfl ykX9_readAll q2091 q1118 (Nat.le_refl _) (by have hx := sX9_readAll hγ l0  σ q1 hq1; rw [ha4] at hx; exact hx)) (JT_out rfl ht (thrR hq))
  · refine J_cUi (na := 0) (D := 86) 4 dX23_read_2_1 rfl q2089 q2090 q1116 ⟨by decide, by decide, by decide +kernel⟩ (Nat.le_of_ble_eq_true rfl) cs_nil (by decide) [] rfl rfl (UR.of (c9 := 23) hb2 (by decide) rfl ykX9_readAll q2091 q1118 (Nat.le_refl _) (by have hx := sX9_readAll hγ l0  σ q1 hq1; rw [hw3] at hx; exact hx)) ?_
    obtain ⟨σ5, hσ5, h⟩ := some_of_bind h
    refine J_anew 13 (by decide) (by decide) rfl q1434 q2069 7 dX23_read_2_4 rfl hσ5 ?_
    refine J_astore_n (i := 1) 8 [(1, 1, va_rf (some (hsz q1.2))), (0, 1, va_rf l0)] dX23_read_2_7 rfl rfl (Nat.le_of_ble_eq_true rfl) rfl ?_
    refine J_aload_n (i := 0) 1 9 dX23_read_2_8 rfl rfl rfl ?_
    obtain ⟨v6, hv6, h⟩ := some_of_bind h
    refine J_gR 12 dX23_read_2_9 rfl fk_r_366 hv6 ?_
    refine J_ic 13 dX23_read_2_12 rfl (0 : Int32) kic_0 ?_
    refine J_aload_n (i := 1) 0 14 dX23_read_2_13 rfl rfl rfl ?_
    refine J_ic 15 dX23_read_2_14 rfl (0 : Int32) kic_0 ?_
    refine J_aload_n (i := 1) 0 16 dX23_read_2_15 rfl rfl rfl ?_
    obtain ⟨v7, hv7, h⟩ := some_of_bind h
    refine J_alen 17 dX23_read_2_16 rfl hv7 ?_
    obtain ⟨σ8, hσ8, h⟩ := some_of_bind h
    refine J_cpR 13 13 (by decide) (by decide) (by decide) (by decide) q2092 (Nat.le_of_ble_eq_true rfl) cs_nil (by decide) 20 dX23_read_2_17 rfl hσ8 ?_
    refine J_aload_n (i := 1) 0 21 dX23_read_2_20 rfl rfl rfl ?_
    exact J_aret rfl (Or.inr ⟨_, rfl⟩) dX23_read_2_21 (retRX h)
abbrev mX9_init : MP := (cX9_init, "MissCurves$Reader", 3, (Option.none : Option FieldType), 1, "<init>", [])
theorem ykX9_init : YK yX9_init mX9_init 2 := ⟨q1065, q156, ⟨by decide, by decide⟩, by decide +kernel, Nat.le_of_ble_eq_true rfl, by decide, rfl, rfl⟩
theorem pk_r_369 : POK "MissCurves$Reader" "<init>" 17 [10, 23] 5 (.array (.object "MissCurves$Test")) := POK.cons (by decide) rfl (Nat.le_of_ble_eq_true rfl) (Or.inl ⟨_, q1084, Or.inl rfl⟩) rfl (by decide +kernel) (Or.inr ⟨rfl, rfl, rfl, _, q1084, Or.inl rfl⟩) (POK.one (by decide) rfl (Nat.le_of_ble_eq_true rfl) (Or.inl ⟨_, q1084, Or.inl rfl⟩) rfl (by decide +kernel) (Or.inr ⟨rfl, rfl, rfl, _, q1084, Or.inl rfl⟩))
theorem pk_r_370 : POK "MissCurves$Reader" "<init>" 21 [10, 23] 6 (.array (.object "java/lang/String")) := POK.cons (by decide) rfl (Nat.le_of_ble_eq_true rfl) (Or.inl ⟨_, q1085, Or.inl rfl⟩) rfl (by decide +kernel) (Or.inr ⟨rfl, rfl, rfl, _, q1085, Or.inl rfl⟩) (POK.one (by decide) rfl (Nat.le_of_ble_eq_true rfl) (Or.inl ⟨_, q1085, Or.inl rfl⟩) rfl (by decide +kernel) (Or.inr ⟨rfl, rfl, rfl, _, q1085, Or.inl rfl⟩))
def X9_init (l0 : Option Nat) (l1 : Option Nat) (l2 : Option Nat) (σ : Hp) : Option Hp :=
  (pR σ l0 [10, 23] 7 l1).bind fun σ1 =>
  l0.bind fun b2 =>
  (nA 11 σ1 (50 : Int32)).bind fun σ3 =>
  (pR σ3 l0 [10, 23] 5 (some (hsz σ1))).bind fun σ4 =>
  (pR σ4 l0 [10, 23] 6 l2).bind fun σ5 =>
  some σ5
set_option maxHeartbeats 4000000 in
theorem sX9_init {γ : GP} (hγ : GOK γ) (l0 : Option Nat) (l1 : Option Nat) (l2 : Option Nat) (σ : Hp) (q : Hp) (h : X9_init l0 l1 l2 σ = some q) : Rn γ mX9_init yX9_init [va_rf l0, va_rf l1, va_rf l2] (σ, .inr none, q) := by
  refine J_m hγ ykX9_init rfl [(1, va_rf l0), (1, va_rf l1), (1, va_rf l2)] (cats_r (cats_r (cats_r cats_nil))) (Nat.le_of_ble_eq_true rfl) ?_
  show J γ mX9_init _ σ 0 [(0, 1, va_rf l0), (1, 1, va_rf l1), (2, 1, va_rf l2)] []
  unfold X9_init at h
  refine J_aload_n (i := 0) 0 1 dX9_init_0 rfl rfl rfl ?_
  refine J_aload_n (i := 1) 1 2 dX9_init_1 rfl rfl rfl ?_
  obtain ⟨σ1, hσ1, h⟩ := some_of_bind h
  refine J_pR2 rfl 5 dX9_init_2 rfl pk2_9 hσ1 ?_
  refine J_aload_n (i := 0) 0 6 dX9_init_5 rfl rfl rfl ?_
  obtain ⟨b2, hb2, h⟩ := some_of_bind h
  refine J_oI hb2 q1066 (Nat.le_of_ble_eq_true rfl) cs_nil (by decide) 9 dX9_init_6 rfl ?_
  refine J_aload_n (i := 0) 0 10 dX9_init_9 rfl rfl rfl ?_
  refine J_bipush 12 dX9_init_10 rfl (50 : Int32) kbp_50 ?_
  obtain ⟨σ3, hσ3, h⟩ := some_of_bind h
  refine J_anew 11 (by decide) (by decide) rfl q1067 q1068 15 dX9_init_12 rfl hσ3 ?_
  obtain ⟨σ4, hσ4, h⟩ := some_of_bind h
  refine J_pR rfl 18 dX9_init_15 rfl pk_r_369 hσ4 ?_
  refine J_aload_n (i := 0) 0 19 dX9_init_18 rfl rfl rfl ?_
  refine J_aload_n (i := 2) 2 20 dX9_init_19 rfl rfl rfl ?_
  obtain ⟨σ5, hσ5, h⟩ := some_of_bind h
  refine J_pR rfl 23 dX9_init_20 rfl pk_r_370 hσ5 ?_
  exact J_vret rfl dX9_init_23 (retV h)
abbrev mX10_init : MP := (cX10_init, "MissCurves$LawReader", 2, (Option.none : Option FieldType), 2, "<init>", [])
theorem ykX10_init : YK yX10_init mX10_init 1 := ⟨q1054, q157, ⟨by decide, by decide⟩, by decide +kernel, Nat.le_of_ble_eq_true rfl, by decide, rfl, rfl⟩
theorem pk_r_371 : POK "MissCurves$LawReader" "<init>" 31 [10] 8 (.array (.object "MissCurves$Clause")) := POK.one (by decide) rfl (Nat.le_of_ble_eq_true rfl) (Or.inl ⟨_, q1072, Or.inl rfl⟩) rfl (by decide +kernel) (Or.inr ⟨rfl, rfl, rfl, _, q1072, Or.inl rfl⟩)
theorem pk_r_372 : POK "MissCurves$LawReader" "<init>" 39 [10] 9 (.array (.object "java/lang/String")) := POK.one (by decide) rfl (Nat.le_of_ble_eq_true rfl) (Or.inl ⟨_, q1073, Or.inl rfl⟩) rfl (by decide +kernel) (Or.inr ⟨rfl, rfl, rfl, _, q1073, Or.inl rfl⟩)
def X10_init (l0 : Option Nat) (l1 : Option Nat) (σ : Hp) : Option Hp :=
  (pR σ l0 [10] 10 l1).bind fun σ1 =>
  (nA 14 σ1 (6 : Int32)).bind fun σ2 =>
  (sR 14 σ2 (some (hsz σ1)) (0 : Int32) (hst σ2 143)).bind fun σ3 =>
  (sR 14 σ3 (some (hsz σ1)) (1 : Int32) (hst σ3 129)).bind fun σ4 =>
  (sR 14 σ4 (some (hsz σ1)) (2 : Int32) (hst σ4 142)).bind fun σ5 =>
  (sR 14 σ5 (some (hsz σ1)) (3 : Int32) (hst σ5 126)).bind fun σ6 =>
  (sR 14 σ6 (some (hsz σ1)) (4 : Int32) (hst σ6 144)).bind fun σ7 =>
  (sR 14 σ7 (some (hsz σ1)) (5 : Int32) (hst σ7 135)).bind fun σ8 =>
  l0.bind fun b10 =>
  (X9_init l0 l1 (some (hsz σ1)) σ8).bind fun q9 =>
  (nA 10 q9 (12 : Int32)).bind fun σ11 =>
  (pR σ11 l0 [10] 8 (some (hsz q9))).bind fun σ12 =>
  (nA 14 σ12 (2 : Int32)).bind fun σ13 =>
  (sR 14 σ13 (some (hsz σ12)) (0 : Int32) (hst σ13 122)).bind fun σ14 =>
  (sR 14 σ14 (some (hsz σ12)) (1 : Int32) (hst σ14 119)).bind fun σ15 =>
  (pR σ15 l0 [10] 9 (some (hsz σ12))).bind fun σ16 =>
  some σ16
set_option maxHeartbeats 4000000 in
theorem sX10_init {γ : GP} (hγ : GOK γ) (l0 : Option Nat) (l1 : Option Nat) (σ : Hp) (q : Hp) (h : X10_init l0 l1 σ = some q) : Rn γ mX10_init yX10_init [va_rf l0, va_rf l1] (σ, .inr none, q) := by
  refine J_m hγ ykX10_init rfl [(1, va_rf l0), (1, va_rf l1)] (cats_r (cats_r cats_nil)) (Nat.le_of_ble_eq_true rfl) ?_
  show J γ mX10_init _ σ 0 [(0, 1, va_rf l0), (1, 1, va_rf l1)] []
  unfold X10_init at h
  refine J_aload_n (i := 0) 0 1 dX10_init_0 rfl rfl rfl ?_
  refine J_aload_n (i := 1) 1 2 dX10_init_1 rfl rfl rfl ?_
  obtain ⟨σ1, hσ1, h⟩ := some_of_bind h
  refine J_pR2 rfl 5 dX10_init_2 rfl pk2_10 hσ1 ?_
  refine J_aload_n (i := 0) 0 6 dX10_init_5 rfl rfl rfl ?_
  refine J_aload_n (i := 1) 1 7 dX10_init_6 rfl rfl rfl ?_
  refine J_bipush 9 dX10_init_7 rfl (6 : Int32) kbp_6 ?_
  obtain ⟨σ2, hσ2, h⟩ := some_of_bind h
  refine J_anew 14 (by decide) (by decide) rfl q1055 q1056 12 dX10_init_9 rfl hσ2 ?_
  refine J_dupr 13 dX10_init_12 rfl ?_
  refine J_ic 14 dX10_init_13 rfl (0 : Int32) kic_0 ?_
  refine J_ldcS (k := 143) (tx := "tenant") (show (143, "MissCurves$LawReader", 11, "tenant") ∈ strl by decide) 16 dX10_init_14 rfl ?_
  obtain ⟨σ3, hσ3, h⟩ := some_of_bind h
  refine J_aast 14 (by decide) (by decide) 17 dX10_init_16 rfl hσ3 ?_
  refine J_dupr 18 dX10_init_17 rfl ?_
  refine J_ic 19 dX10_init_18 rfl (1 : Int32) kic_1 ?_
  refine J_ldcS (k := 129) (tx := "key") (show (129, "MissCurves$LawReader", 13, "key") ∈ strl by decide) 21 dX10_init_19 rfl ?_
  obtain ⟨σ4, hσ4, h⟩ := some_of_bind h
  refine J_aast 14 (by decide) (by decide) 22 dX10_init_21 rfl hσ4 ?_
  refine J_dupr 23 dX10_init_22 rfl ?_
  refine J_ic 24 dX10_init_23 rfl (2 : Int32) kic_2 ?_
  refine J_ldcS (k := 142) (tx := "reads") (show (142, "MissCurves$LawReader", 15, "reads") ∈ strl by decide) 26 dX10_init_24 rfl ?_
  obtain ⟨σ5, hσ5, h⟩ := some_of_bind h
  refine J_aast 14 (by decide) (by decide) 27 dX10_init_26 rfl hσ5 ?_
  refine J_dupr 28 dX10_init_27 rfl ?_
  refine J_ic 29 dX10_init_28 rfl (3 : Int32) kic_3 ?_
  refine J_ldcS (k := 126) (tx := "far") (show (126, "MissCurves$LawReader", 17, "far") ∈ strl by decide) 31 dX10_init_29 rfl ?_
  obtain ⟨σ6, hσ6, h⟩ := some_of_bind h
  refine J_aast 14 (by decide) (by decide) 32 dX10_init_31 rfl hσ6 ?_
  refine J_dupr 33 dX10_init_32 rfl ?_
  refine J_ic 34 dX10_init_33 rfl (4 : Int32) kic_4 ?_
  refine J_ldcS (k := 144) (tx := "time") (show (144, "MissCurves$LawReader", 19, "time") ∈ strl by decide) 36 dX10_init_34 rfl ?_
  obtain ⟨σ7, hσ7, h⟩ := some_of_bind h
  refine J_aast 14 (by decide) (by decide) 37 dX10_init_36 rfl hσ7 ?_
  refine J_dupr 38 dX10_init_37 rfl ?_
  refine J_ic 39 dX10_init_38 rfl (5 : Int32) kic_5 ?_
  refine J_ldcS (k := 135) (tx := "mood") (show (135, "MissCurves$LawReader", 21, "mood") ∈ strl by decide) 41 dX10_init_39 rfl ?_
  obtain ⟨σ8, hσ8, h⟩ := some_of_bind h
  refine J_aast 14 (by decide) (by decide) 42 dX10_init_41 rfl hσ8 ?_
  obtain ⟨b10, hb10, h⟩ := some_of_bind h
  obtain ⟨q9, hq9, h⟩ := some_of_bind h
  refine J_cI 45 dX10_init_42 rfl ykX9_init rfl (Or.inl q1063) q1064 rfl (Nat.le_of_ble_eq_true rfl) cs_nil (by decide) [va_rf l1, va_rf (some (hsz σ1))] hb10 rfl rfl (sX9_init hγ l0 l1 (some (hsz σ1)) σ8 q9 hq9) ?_
  refine J_aload_n (i := 0) 0 46 dX10_init_45 rfl rfl rfl ?_
  refine J_bipush 48 dX10_init_46 rfl (12 : Int32) kbp_12 ?_
  obtain ⟨σ11, hσ11, h⟩ := some_of_bind h
  refine J_anew 10 (by decide) (by decide) rfl q1069 q367 51 dX10_init_48 rfl hσ11 ?_
  obtain ⟨σ12, hσ12, h⟩ := some_of_bind h
  refine J_pR rfl 54 dX10_init_51 rfl pk_r_371 hσ12 ?_
  refine J_aload_n (i := 0) 0 55 dX10_init_54 rfl rfl rfl ?_
  refine J_ic 56 dX10_init_55 rfl (2 : Int32) kic_2 ?_
  obtain ⟨σ13, hσ13, h⟩ := some_of_bind h
  refine J_anew 14 (by decide) (by decide) rfl q1055 q1056 59 dX10_init_56 rfl hσ13 ?_
  refine J_dupr 60 dX10_init_59 rfl ?_
  refine J_ic 61 dX10_init_60 rfl (0 : Int32) kic_0 ?_
  refine J_ldcS (k := 122) (tx := "costs") (show (122, "MissCurves$LawReader", 35, "costs") ∈ strl by decide) 63 dX10_init_61 rfl ?_
  obtain ⟨σ14, hσ14, h⟩ := some_of_bind h
  refine J_aast 14 (by decide) (by decide) 64 dX10_init_63 rfl hσ14 ?_
  refine J_dupr 65 dX10_init_64 rfl ?_
  refine J_ic 66 dX10_init_65 rfl (1 : Int32) kic_1 ?_
  refine J_ldcS (k := 119) (tx := "bars") (show (119, "MissCurves$LawReader", 37, "bars") ∈ strl by decide) 68 dX10_init_66 rfl ?_
  obtain ⟨σ15, hσ15, h⟩ := some_of_bind h
  refine J_aast 14 (by decide) (by decide) 69 dX10_init_68 rfl hσ15 ?_
  obtain ⟨σ16, hσ16, h⟩ := some_of_bind h
  refine J_pR rfl 72 dX10_init_69 rfl pk_r_372 hσ16 ?_
  exact J_vret rfl dX10_init_72 (retV h)
abbrev mX23_init : MP := (cX23_init, "MissCurves$OrderReader", 2, (Option.none : Option FieldType), 2, "<init>", [])
theorem ykX23_init : YK yX23_init mX23_init 1 := ⟨q2061, q170, ⟨by decide, by decide⟩, by decide +kernel, Nat.le_of_ble_eq_true rfl, by decide, rfl, rfl⟩
theorem pk_r_373 : POK "MissCurves$OrderReader" "<init>" 29 [23] 8 (.array (.object "MissCurves$Act")) := POK.one (by decide) rfl (Nat.le_of_ble_eq_true rfl) (Or.inl ⟨_, q2070, Or.inl rfl⟩) rfl (by decide +kernel) (Or.inr ⟨rfl, rfl, rfl, _, q2070, Or.inl rfl⟩)
def X23_init (l0 : Option Nat) (l1 : Option Nat) (σ : Hp) : Option Hp :=
  (pR σ l0 [23] 9 l1).bind fun σ1 =>
  (nA 14 σ1 (5 : Int32)).bind fun σ2 =>
  (sR 14 σ2 (some (hsz σ1)) (0 : Int32) (hst σ2 144)).bind fun σ3 =>
  (sR 14 σ3 (some (hsz σ1)) (1 : Int32) (hst σ3 124)).bind fun σ4 =>
  (sR 14 σ4 (some (hsz σ1)) (2 : Int32) (hst σ4 130)).bind fun σ5 =>
  (sR 14 σ5 (some (hsz σ1)) (3 : Int32) (hst σ5 121)).bind fun σ6 =>
  (sR 14 σ6 (some (hsz σ1)) (4 : Int32) (hst σ6 123)).bind fun σ7 =>
  l0.bind fun b9 =>
  (X9_init l0 l1 (some (hsz σ1)) σ7).bind fun q8 =>
  (nA 13 q8 (12 : Int32)).bind fun σ10 =>
  (pR σ10 l0 [23] 8 (some (hsz q8))).bind fun σ11 =>
  some σ11
set_option maxHeartbeats 4000000 in
theorem sX23_init {γ : GP} (hγ : GOK γ) (l0 : Option Nat) (l1 : Option Nat) (σ : Hp) (q : Hp) (h : X23_init l0 l1 σ = some q) : Rn γ mX23_init yX23_init [va_rf l0, va_rf l1] (σ, .inr none, q) := by
  refine J_m hγ ykX23_init rfl [(1, va_rf l0), (1, va_rf l1)] (cats_r (cats_r cats_nil)) (Nat.le_of_ble_eq_true rfl) ?_
  show J γ mX23_init _ σ 0 [(0, 1, va_rf l0), (1, 1, va_rf l1)] []
  unfold X23_init at h
  refine J_aload_n (i := 0) 0 1 dX23_init_0 rfl rfl rfl ?_
  refine J_aload_n (i := 1) 1 2 dX23_init_1 rfl rfl rfl ?_
  obtain ⟨σ1, hσ1, h⟩ := some_of_bind h
  refine J_pR2 rfl 5 dX23_init_2 rfl pk2_23 hσ1 ?_
  refine J_aload_n (i := 0) 0 6 dX23_init_5 rfl rfl rfl ?_
  refine J_aload_n (i := 1) 1 7 dX23_init_6 rfl rfl rfl ?_
  refine J_ic 8 dX23_init_7 rfl (5 : Int32) kic_5 ?_
  obtain ⟨σ2, hσ2, h⟩ := some_of_bind h
  refine J_anew 14 (by decide) (by decide) rfl q2062 q1056 11 dX23_init_8 rfl hσ2 ?_
  refine J_dupr 12 dX23_init_11 rfl ?_
  refine J_ic 13 dX23_init_12 rfl (0 : Int32) kic_0 ?_
  refine J_ldcS (k := 144) (tx := "time") (show (144, "MissCurves$OrderReader", 11, "time") ∈ strl by decide) 15 dX23_init_13 rfl ?_
  obtain ⟨σ3, hσ3, h⟩ := some_of_bind h
  refine J_aast 14 (by decide) (by decide) 16 dX23_init_15 rfl hσ3 ?_
  refine J_dupr 17 dX23_init_16 rfl ?_
  refine J_ic 18 dX23_init_17 rfl (1 : Int32) kic_1 ?_
  refine J_ldcS (k := 124) (tx := "done") (show (124, "MissCurves$OrderReader", 13, "done") ∈ strl by decide) 20 dX23_init_18 rfl ?_
  obtain ⟨σ4, hσ4, h⟩ := some_of_bind h
  refine J_aast 14 (by decide) (by decide) 21 dX23_init_20 rfl hσ4 ?_
  refine J_dupr 22 dX23_init_21 rfl ?_
  refine J_ic 23 dX23_init_22 rfl (2 : Int32) kic_2 ?_
  refine J_ldcS (k := 130) (tx := "latest") (show (130, "MissCurves$OrderReader", 15, "latest") ∈ strl by decide) 25 dX23_init_23 rfl ?_
  obtain ⟨σ5, hσ5, h⟩ := some_of_bind h
  refine J_aast 14 (by decide) (by decide) 26 dX23_init_25 rfl hσ5 ?_
  refine J_dupr 27 dX23_init_26 rfl ?_
  refine J_ic 28 dX23_init_27 rfl (3 : Int32) kic_3 ?_
  refine J_ldcS (k := 121) (tx := "cold") (show (121, "MissCurves$OrderReader", 17, "cold") ∈ strl by decide) 30 dX23_init_28 rfl ?_
  obtain ⟨σ6, hσ6, h⟩ := some_of_bind h
  refine J_aast 14 (by decide) (by decide) 31 dX23_init_30 rfl hσ6 ?_
  refine J_dupr 32 dX23_init_31 rfl ?_
  refine J_ic 33 dX23_init_32 rfl (4 : Int32) kic_4 ?_
  refine J_ldcS (k := 123) (tx := "deep") (show (123, "MissCurves$OrderReader", 19, "deep") ∈ strl by decide) 35 dX23_init_33 rfl ?_
  obtain ⟨σ7, hσ7, h⟩ := some_of_bind h
  refine J_aast 14 (by decide) (by decide) 36 dX23_init_35 rfl hσ7 ?_
  obtain ⟨b9, hb9, h⟩ := some_of_bind h
  obtain ⟨q8, hq8, h⟩ := some_of_bind h
  refine J_cI 39 dX23_init_36 rfl ykX9_init rfl (Or.inl q2068) q1064 rfl (Nat.le_of_ble_eq_true rfl) cs_nil (by decide) [va_rf l1, va_rf (some (hsz σ1))] hb9 rfl rfl (sX9_init hγ l0 l1 (some (hsz σ1)) σ7 q8 hq8) ?_
  refine J_aload_n (i := 0) 0 40 dX23_init_39 rfl rfl rfl ?_
  refine J_bipush 42 dX23_init_40 rfl (12 : Int32) kbp_12 ?_
  obtain ⟨σ10, hσ10, h⟩ := some_of_bind h
  refine J_anew 13 (by decide) (by decide) rfl q1434 q2069 45 dX23_init_42 rfl hσ10 ?_
  obtain ⟨σ11, hσ11, h⟩ := some_of_bind h
  refine J_pR rfl 48 dX23_init_45 rfl pk_r_373 hσ11 ?_
  exact J_vret rfl dX23_init_48 (retV h)
