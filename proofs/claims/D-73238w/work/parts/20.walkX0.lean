set_option maxRecDepth 100000
abbrev mX0_about : MP := (cX0_about, "MissCurves", 3, (Option.none : Option FieldType), 2, "about", [])
theorem ykX0_about : YK yX0_about mX0_about 2 := ⟨q538, q128, ⟨by decide, by decide⟩, by decide +kernel, Nat.le_of_ble_eq_true rfl, by decide, rfl, rfl⟩
theorem fk_z_230 : FOK "MissCurves" 53 [0] 6 isR := FOK.one (by decide) rfl (Nat.le_of_ble_eq_true rfl) (Or.inl ⟨_, q386, Or.inl rfl⟩) rfl
theorem fk_z_231 : FOK "MissCurves" 300 [5] 0 isR := FOK.one (by decide) rfl (Nat.le_of_ble_eq_true rfl) (Or.inr ⟨_, q351⟩) rfl
theorem fk_z_232 : FOK "MissCurves" 205 [2] 1 isI := FOK.one (by decide) rfl (Nat.le_of_ble_eq_true rfl) (Or.inr ⟨_, q281⟩) rfl
theorem fk_z_233 : FOK "MissCurves" 189 [1] 1 isR := FOK.one (by decide) rfl (Nat.le_of_ble_eq_true rfl) (Or.inr ⟨_, q295⟩) rfl
def X0_about (l0 : Option Nat) (l1 : Int32) (l2 : Int32) (σ : Hp) : Option Hp :=
  (gR σ l0 [0] 6).bind fun v1 =>
  (gR σ v1 [5] 0).bind fun v2 =>
  (sL σ v2 (0 : Int32) l1.toInt64).bind fun σ3 =>
  (gR σ3 l0 [0] 6).bind fun v4 =>
  (gR σ3 v4 [5] 0).bind fun v5 =>
  (sL σ3 v5 (1 : Int32) l2.toInt64).bind fun σ6 =>
  (gR σ6 l0 [0] 6).bind fun v7 =>
  (gR σ6 v7 [5] 0).bind fun v8 =>
  (cT σ6 l0 0).bind fun b10 =>
  (X0_book l0 l1 σ6).bind fun q9 =>
  (cT q9.2 q9.1 3).bind fun b12 =>
  (X3_often q9.1 l2 q9.2).bind fun q11 =>
  (sL q11.2 v8 (2 : Int32) q11.1.toInt64).bind fun σ13 =>
  (gR σ13 l0 [0] 6).bind fun v14 =>
  (gR σ13 v14 [5] 0).bind fun v15 =>
  (cT σ13 l0 0).bind fun b17 =>
  (X0_book l0 l1 σ13).bind fun q16 =>
  (cT q16.2 q16.1 3).bind fun b19 =>
  (X3_place q16.1 l2 q16.2).bind fun q18 =>
  (sL q18.2 v15 (3 : Int32) q18.1.toInt64).bind fun σ20 =>
  (gR σ20 l0 [0] 6).bind fun v21 =>
  (gR σ20 v21 [5] 0).bind fun v22 =>
  (cT σ20 l0 0).bind fun b24 =>
  (X0_books l0  σ20).bind fun q23 =>
  (gI q23.2 q23.1 [2] 1).bind fun v25 =>
  (sL q23.2 v22 (4 : Int32) v25.toInt64).bind fun σ26 =>
  (gR σ26 l0 [0] 6).bind fun v27 =>
  (gR σ26 v27 [5] 0).bind fun v28 =>
  (gR σ26 l0 [0] 0).bind fun v29 =>
  (gR σ26 v29 [1] 1).bind fun v30 =>
  (aI 0 σ26 v30 (2 : Int32)).bind fun v31 =>
  (sL σ26 v28 (5 : Int32) v31.toInt64).bind fun σ32 =>
  some σ32
set_option maxHeartbeats 4000000 in
theorem sX0_about {γ : GP} (hγ : GOK γ) (l0 : Option Nat) (l1 : Int32) (l2 : Int32) (σ : Hp) (q : Hp) (h : X0_about l0 l1 l2 σ = some q) : Rn γ mX0_about yX0_about [va_rf l0, .int l1, .int l2] (σ, .inr none, q) := by
  refine J_m hγ ykX0_about rfl [(1, va_rf l0), (1, .int l1), (1, .int l2)] (cats_r (cats_i (cats_i cats_nil))) (Nat.le_of_ble_eq_true rfl) ?_
  show J γ mX0_about _ σ 0 [(0, 1, va_rf l0), (1, 1, .int l1), (2, 1, .int l2)] []
  unfold X0_about at h
  refine J_aload_n (i := 0) 0 1 dX0_about_0 rfl rfl rfl ?_
  obtain ⟨v1, hv1, h⟩ := some_of_bind h
  refine J_gR 4 dX0_about_1 rfl fk_z_230 hv1 ?_
  obtain ⟨v2, hv2, h⟩ := some_of_bind h
  refine J_gR 7 dX0_about_4 rfl fk_z_231 hv2 ?_
  refine J_ic 8 dX0_about_7 rfl (0 : Int32) kic_0 ?_
  refine J_iload_n (i := 1) 1 9 dX0_about_8 rfl rfl rfl ?_
  refine J_i2l 10 dX0_about_9 rfl ?_
  obtain ⟨σ3, hσ3, h⟩ := some_of_bind h
  refine J_last 11 dX0_about_10 rfl hσ3 ?_
  refine J_aload_n (i := 0) 0 12 dX0_about_11 rfl rfl rfl ?_
  obtain ⟨v4, hv4, h⟩ := some_of_bind h
  refine J_gR 15 dX0_about_12 rfl fk_z_230 hv4 ?_
  obtain ⟨v5, hv5, h⟩ := some_of_bind h
  refine J_gR 18 dX0_about_15 rfl fk_z_231 hv5 ?_
  refine J_ic 19 dX0_about_18 rfl (1 : Int32) kic_1 ?_
  refine J_iload_n (i := 2) 2 20 dX0_about_19 rfl rfl rfl ?_
  refine J_i2l 21 dX0_about_20 rfl ?_
  obtain ⟨σ6, hσ6, h⟩ := some_of_bind h
  refine J_last 22 dX0_about_21 rfl hσ6 ?_
  refine J_aload_n (i := 0) 0 23 dX0_about_22 rfl rfl rfl ?_
  obtain ⟨v7, hv7, h⟩ := some_of_bind h
  refine J_gR 26 dX0_about_23 rfl fk_z_230 hv7 ?_
  obtain ⟨v8, hv8, h⟩ := some_of_bind h
  refine J_gR 29 dX0_about_26 rfl fk_z_231 hv8 ?_
  refine J_ic 30 dX0_about_29 rfl (2 : Int32) kic_2 ?_
  refine J_aload_n (i := 0) 0 31 dX0_about_30 rfl rfl rfl ?_
  refine J_iload_n (i := 1) 1 32 dX0_about_31 rfl rfl rfl ?_
  obtain ⟨b10, hb10, h⟩ := some_of_bind h
  obtain ⟨q9, hq9, h⟩ := some_of_bind h
  refine J_cVr 35 dX0_about_32 rfl ykX0_book (Or.inl q495) q497 qs1 (Nat.le_of_ble_eq_true rfl) (cs_int (cs_rf cs_nil)) (by decide) [.int l1] hb10 (by decide) rfl rfl rfl (sX0_book hγ l0 l1 σ6 q9 hq9) ?_
  refine J_iload_n (i := 2) 2 36 dX0_about_35 rfl rfl rfl ?_
  obtain ⟨b12, hb12, h⟩ := some_of_bind h
  obtain ⟨q11, hq11, h⟩ := some_of_bind h
  refine J_cVi 39 dX0_about_36 rfl ykX3_often (Or.inl q539) q540 q541 (Nat.le_of_ble_eq_true rfl) (cs_int (cs_rf cs_nil)) (by decide) [.int l2] hb12 (by decide) rfl rfl rfl (sX3_often hγ q9.1 l2 q9.2 q11 hq11) ?_
  refine J_i2l 40 dX0_about_39 rfl ?_
  obtain ⟨σ13, hσ13, h⟩ := some_of_bind h
  refine J_last 41 dX0_about_40 rfl hσ13 ?_
  refine J_aload_n (i := 0) 0 42 dX0_about_41 rfl rfl rfl ?_
  obtain ⟨v14, hv14, h⟩ := some_of_bind h
  refine J_gR 45 dX0_about_42 rfl fk_z_230 hv14 ?_
  obtain ⟨v15, hv15, h⟩ := some_of_bind h
  refine J_gR 48 dX0_about_45 rfl fk_z_231 hv15 ?_
  refine J_ic 49 dX0_about_48 rfl (3 : Int32) kic_3 ?_
  refine J_aload_n (i := 0) 0 50 dX0_about_49 rfl rfl rfl ?_
  refine J_iload_n (i := 1) 1 51 dX0_about_50 rfl rfl rfl ?_
  obtain ⟨b17, hb17, h⟩ := some_of_bind h
  obtain ⟨q16, hq16, h⟩ := some_of_bind h
  refine J_cVr 54 dX0_about_51 rfl ykX0_book (Or.inl q495) q497 qs1 (Nat.le_of_ble_eq_true rfl) (cs_int (cs_rf cs_nil)) (by decide) [.int l1] hb17 (by decide) rfl rfl rfl (sX0_book hγ l0 l1 σ13 q16 hq16) ?_
  refine J_iload_n (i := 2) 2 55 dX0_about_54 rfl rfl rfl ?_
  obtain ⟨b19, hb19, h⟩ := some_of_bind h
  obtain ⟨q18, hq18, h⟩ := some_of_bind h
  refine J_cVi 58 dX0_about_55 rfl ykX3_place (Or.inl q517) q518 q519 (Nat.le_of_ble_eq_true rfl) (cs_int (cs_rf cs_nil)) (by decide) [.int l2] hb19 (by decide) rfl rfl rfl (sX3_place hγ q16.1 l2 q16.2 q18 hq18) ?_
  refine J_i2l 59 dX0_about_58 rfl ?_
  obtain ⟨σ20, hσ20, h⟩ := some_of_bind h
  refine J_last 60 dX0_about_59 rfl hσ20 ?_
  refine J_aload_n (i := 0) 0 61 dX0_about_60 rfl rfl rfl ?_
  obtain ⟨v21, hv21, h⟩ := some_of_bind h
  refine J_gR 64 dX0_about_61 rfl fk_z_230 hv21 ?_
  obtain ⟨v22, hv22, h⟩ := some_of_bind h
  refine J_gR 67 dX0_about_64 rfl fk_z_231 hv22 ?_
  refine J_ic 68 dX0_about_67 rfl (4 : Int32) kic_4 ?_
  refine J_aload_n (i := 0) 0 69 dX0_about_68 rfl rfl rfl ?_
  obtain ⟨b24, hb24, h⟩ := some_of_bind h
  obtain ⟨q23, hq23, h⟩ := some_of_bind h
  refine J_cVr 72 dX0_about_69 rfl ykX0_books (Or.inl q499) q501 qs2 (Nat.le_of_ble_eq_true rfl) (cs_int (cs_rf cs_nil)) (by decide) [] hb24 (by decide) rfl rfl rfl (sX0_books hγ l0  σ20 q23 hq23) ?_
  obtain ⟨v25, hv25, h⟩ := some_of_bind h
  refine J_gI 75 dX0_about_72 rfl fk_z_232 hv25 ?_
  refine J_i2l 76 dX0_about_75 rfl ?_
  obtain ⟨σ26, hσ26, h⟩ := some_of_bind h
  refine J_last 77 dX0_about_76 rfl hσ26 ?_
  refine J_aload_n (i := 0) 0 78 dX0_about_77 rfl rfl rfl ?_
  obtain ⟨v27, hv27, h⟩ := some_of_bind h
  refine J_gR 81 dX0_about_78 rfl fk_z_230 hv27 ?_
  obtain ⟨v28, hv28, h⟩ := some_of_bind h
  refine J_gR 84 dX0_about_81 rfl fk_z_231 hv28 ?_
  refine J_ic 85 dX0_about_84 rfl (5 : Int32) kic_5 ?_
  refine J_aload_n (i := 0) 0 86 dX0_about_85 rfl rfl rfl ?_
  obtain ⟨v29, hv29, h⟩ := some_of_bind h
  refine J_gR 89 dX0_about_86 rfl fk_x_133 hv29 ?_
  obtain ⟨v30, hv30, h⟩ := some_of_bind h
  refine J_gR 92 dX0_about_89 rfl fk_z_233 hv30 ?_
  refine J_ic 93 dX0_about_92 rfl (2 : Int32) kic_2 ?_
  obtain ⟨v31, hv31, h⟩ := some_of_bind h
  refine J_iald 94 dX0_about_93 rfl hv31 ?_
  refine J_i2l 95 dX0_about_94 rfl ?_
  obtain ⟨σ32, hσ32, h⟩ := some_of_bind h
  refine J_last 96 dX0_about_95 rfl hσ32 ?_
  exact J_vret rfl dX0_about_96 (retV h)
abbrev mX0_canBe : MP := (cX0_canBe, "MissCurves", 5, (Option.some FieldType.int), 2, "canBe", [])
theorem ykX0_canBe : YK yX0_canBe mX0_canBe 0 := ⟨q2030, q128, ⟨by decide, by decide⟩, by decide +kernel, Nat.le_of_ble_eq_true rfl, by decide, rfl, rfl⟩
theorem fk_z_234 : FOK "MissCurves" 466 [1] 5 isI := FOK.one (by decide) rfl (Nat.le_of_ble_eq_true rfl) (Or.inr ⟨_, q303⟩) rfl
theorem fk_z_235 : FOK "MissCurves" 469 [1] 2 isR := FOK.one (by decide) rfl (Nat.le_of_ble_eq_true rfl) (Or.inr ⟨_, q297⟩) rfl
def X0_canBe_c14 (l0 : Option Nat) (l1 : Int32) (l2 : Int32) (k75 : Int32 → Hp → Option (Int32 × Hp)) : Nat → Int32 → Int32 → Hp → Option (Int32 × Hp)
  | 0, _, _, _ => none
  | n + 1, l3, l4, σ =>
    (gR σ l0 [0] 0).bind fun v1 =>
    (gI σ v1 [1] 5).bind fun v2 =>
    if v2 ≤ l4 then
      k75 l3 σ
    else
      (cT σ l0 0).bind fun b5 =>
      (X0_book l0 l2 σ).bind fun q4 =>
      (gR q4.2 l0 [0] 0).bind fun v6 =>
      (gR q4.2 v6 [1] 2).bind fun v7 =>
      (aR 5 q4.2 v7 l4).bind fun v8 =>
      (aI 0 q4.2 v8 (0 : Int32)).bind fun v9 =>
      (cT q4.2 q4.1 3).bind fun b11 =>
      (X3_misses q4.1 v9 q4.2).bind fun q10 =>
      (gR q10.2 l0 [0] 0).bind fun v12 =>
      (gR q10.2 v12 [1] 2).bind fun v13 =>
      (aR 5 q10.2 v13 l4).bind fun v14 =>
      (aI 0 q10.2 v14 (1 : Int32)).bind fun v15 =>
      if q10.1 = v15 then
        X0_canBe_c14 l0 l1 l2 k75 n (l3 &&& (1 : Int32)) (l4 + (1 : Int32)) q10.2
      else
        X0_canBe_c14 l0 l1 l2 k75 n (l3 &&& (0 : Int32)) (l4 + (1 : Int32)) q10.2
set_option maxHeartbeats 4000000 in
theorem jX0_canBe_c14 {γ : GP} {σ0 : Hp} {q : (Int32 × Hp)} (hγ : GOK γ) (l0 : Option Nat) (l1 : Int32) (l2 : Int32) {k75 : Int32 → Hp → Option (Int32 × Hp)} (hk75 : ∀ (l3 : Int32) (σ : Hp), k75 l3 σ = some q → J γ mX0_canBe (σ0, .inr (some (.int q.1)), q.2) σ 75 [(0, 1, va_rf l0), (1, 1, .int l1), (2, 1, .int l2), (3, 1, .int l3)] []) : ∀ (n : Nat) (l3 : Int32) (l4 : Int32) (σ : Hp), X0_canBe_c14 l0 l1 l2 k75 n l3 l4 σ = some q → J γ mX0_canBe (σ0, .inr (some (.int q.1)), q.2) σ 14 [(0, 1, va_rf l0), (1, 1, .int l1), (2, 1, .int l2), (3, 1, .int l3), (4, 1, .int l4)] [] := by
  intro n
  induction n with
  | zero => intro l3 l4 σ h; exact nomatch (show none = some q from h)
  | succ n ih =>
    intro l3 l4 σ h
    rw [X0_canBe_c14] at h
    refine J_iload (i := 4) 4 16 dX0_canBe_14 rfl rfl ?_
    refine J_aload_n (i := 0) 0 17 dX0_canBe_16 rfl rfl rfl ?_
    obtain ⟨v1, hv1, h⟩ := some_of_bind h
    refine J_gR 20 dX0_canBe_17 rfl fk_x_133 hv1 ?_
    obtain ⟨v2, hv2, h⟩ := some_of_bind h
    refine J_gI 23 dX0_canBe_20 rfl fk_z_234 hv2 ?_
    refine J_icmp_ge 75 26 dX0_canBe_23 (by decide) rfl (fun c3 => ?_) (fun c3 => ?_)
    · rw [if_pos c3] at h
      refine J.pick [0, 1, 2, 3] rfl ?_
      exact hk75 l3 σ h
    · rw [if_neg c3] at h
      refine J_iload_n (i := 3) 3 27 dX0_canBe_26 rfl rfl rfl ?_
      refine J_aload_n (i := 0) 0 28 dX0_canBe_27 rfl rfl rfl ?_
      refine J_iload_n (i := 2) 2 29 dX0_canBe_28 rfl rfl rfl ?_
      obtain ⟨b5, hb5, h⟩ := some_of_bind h
      obtain ⟨q4, hq4, h⟩ := some_of_bind h
      refine J_cVr 32 dX0_canBe_29 rfl ykX0_book (Or.inl q495) q497 qs1 (Nat.le_of_ble_eq_true rfl) (cs_int cs_nil) (by decide) [.int l2] hb5 (by decide) rfl rfl rfl (sX0_book hγ l0 l2 σ q4 hq4) ?_
      refine J_aload_n (i := 0) 0 33 dX0_canBe_32 rfl rfl rfl ?_
      obtain ⟨v6, hv6, h⟩ := some_of_bind h
      refine J_gR 36 dX0_canBe_33 rfl fk_x_133 hv6 ?_
      obtain ⟨v7, hv7, h⟩ := some_of_bind h
      refine J_gR 39 dX0_canBe_36 rfl fk_z_235 hv7 ?_
      refine J_iload (i := 4) 4 41 dX0_canBe_39 rfl rfl ?_
      obtain ⟨v8, hv8, h⟩ := some_of_bind h
      refine J_aald 5 (by decide) (by decide) rfl 42 dX0_canBe_41 rfl hv8 ?_
      refine J_ic 43 dX0_canBe_42 rfl (0 : Int32) kic_0 ?_
      obtain ⟨v9, hv9, h⟩ := some_of_bind h
      refine J_iald 44 dX0_canBe_43 rfl hv9 ?_
      obtain ⟨b11, hb11, h⟩ := some_of_bind h
      obtain ⟨q10, hq10, h⟩ := some_of_bind h
      refine J_cVi 47 dX0_canBe_44 rfl ykX3_misses (Or.inl q1643) q1644 q1645 (Nat.le_of_ble_eq_true rfl) (cs_int cs_nil) (by decide) [.int v9] hb11 (by decide) rfl rfl rfl (sX3_misses hγ q4.1 v9 q4.2 q10 hq10) ?_
      refine J_aload_n (i := 0) 0 48 dX0_canBe_47 rfl rfl rfl ?_
      obtain ⟨v12, hv12, h⟩ := some_of_bind h
      refine J_gR 51 dX0_canBe_48 rfl fk_x_133 hv12 ?_
      obtain ⟨v13, hv13, h⟩ := some_of_bind h
      refine J_gR 54 dX0_canBe_51 rfl fk_z_235 hv13 ?_
      refine J_iload (i := 4) 4 56 dX0_canBe_54 rfl rfl ?_
      obtain ⟨v14, hv14, h⟩ := some_of_bind h
      refine J_aald 5 (by decide) (by decide) rfl 57 dX0_canBe_56 rfl hv14 ?_
      refine J_ic 58 dX0_canBe_57 rfl (1 : Int32) kic_1 ?_
      obtain ⟨v15, hv15, h⟩ := some_of_bind h
      refine J_iald 59 dX0_canBe_58 rfl hv15 ?_
      refine J_icmp_ne 66 62 dX0_canBe_59 (by decide) rfl (fun c16 => ?_) (fun c16 => ?_)
      · rw [if_neg c16] at h
        refine J_ic 67 dX0_canBe_66 rfl (0 : Int32) kic_0 ?_
        refine J_iand 68 dX0_canBe_67 rfl ?_
        refine J_istore_n (i := 3) 69 [(3, 1, .int (l3 &&& (0 : Int32))), (0, 1, va_rf l0), (1, 1, .int l1), (2, 1, .int l2), (4, 1, .int l4)] dX0_canBe_68 rfl rfl (Nat.le_of_ble_eq_true rfl) rfl ?_
        refine J_iinc (i := 4) (v := l4 + (1 : Int32)) 4 72 [(4, 1, .int (l4 + (1 : Int32))), (3, 1, .int (l3 &&& (0 : Int32))), (0, 1, va_rf l0), (1, 1, .int l1), (2, 1, .int l2)] dX0_canBe_69 rfl rfl (Nat.le_of_ble_eq_true rfl) (by rw [kic_1]) rfl ?_
        refine J_goto 14 dX0_canBe_72 (by decide) ?_
        refine J.pick [2, 3, 4, 1, 0] rfl ?_
        exact ih (l3 &&& (0 : Int32)) (l4 + (1 : Int32)) q10.2 h
      · rw [if_pos c16] at h
        refine J_ic 63 dX0_canBe_62 rfl (1 : Int32) kic_1 ?_
        refine J_goto 67 dX0_canBe_63 (by decide) ?_
        refine J_iand 68 dX0_canBe_67 rfl ?_
        refine J_istore_n (i := 3) 69 [(3, 1, .int (l3 &&& (1 : Int32))), (0, 1, va_rf l0), (1, 1, .int l1), (2, 1, .int l2), (4, 1, .int l4)] dX0_canBe_68 rfl rfl (Nat.le_of_ble_eq_true rfl) rfl ?_
        refine J_iinc (i := 4) (v := l4 + (1 : Int32)) 4 72 [(4, 1, .int (l4 + (1 : Int32))), (3, 1, .int (l3 &&& (1 : Int32))), (0, 1, va_rf l0), (1, 1, .int l1), (2, 1, .int l2)] dX0_canBe_69 rfl rfl (Nat.le_of_ble_eq_true rfl) (by rw [kic_1]) rfl ?_
        refine J_goto 14 dX0_canBe_72 (by decide) ?_
        refine J.pick [2, 3, 4, 1, 0] rfl ?_
        exact ih (l3 &&& (1 : Int32)) (l4 + (1 : Int32)) q10.2 h
def X0_canBe_c4 (l0 : Option Nat)  : Nat → Int32 → Int32 → Hp → Option (Int32 × Hp)
  | 0, _, _, _ => none
  | n + 1, l1, l2, σ =>
    if (4 : Int32) ≤ l2 then
      some (l1, σ)
    else
      X0_canBe_c14 l0 l1 l2 (fun x2 τ3 =>
        if x2 = 0 then
          X0_canBe_c4 l0 n (l1 ||| (0 : Int32)) (l2 + (1 : Int32)) τ3
        else
          X0_canBe_c4 l0 n (l1 ||| ((1 : Int32) <<< (l2 &&& 31))) (l2 + (1 : Int32)) τ3) FUEL (1 : Int32) (0 : Int32) σ
set_option maxHeartbeats 4000000 in
theorem jX0_canBe_c4 {γ : GP} {σ0 : Hp} {q : (Int32 × Hp)} (hγ : GOK γ) (l0 : Option Nat)  : ∀ (n : Nat) (l1 : Int32) (l2 : Int32) (σ : Hp), X0_canBe_c4 l0 n l1 l2 σ = some q → J γ mX0_canBe (σ0, .inr (some (.int q.1)), q.2) σ 4 [(0, 1, va_rf l0), (1, 1, .int l1), (2, 1, .int l2)] [] := by
  intro n
  induction n with
  | zero => intro l1 l2 σ h; exact nomatch (show none = some q from h)
  | succ n ih =>
    intro l1 l2 σ h
    rw [X0_canBe_c4] at h
    refine J_iload_n (i := 2) 2 5 dX0_canBe_4 rfl rfl rfl ?_
    refine J_ic 6 dX0_canBe_5 rfl (4 : Int32) kic_4 ?_
    refine J_icmp_ge 95 9 dX0_canBe_6 (by decide) rfl (fun c1 => ?_) (fun c1 => ?_)
    · rw [if_pos c1] at h
      refine J_iload_n (i := 1) 1 96 dX0_canBe_95 rfl rfl rfl ?_
      exact J_iret rfl dX0_canBe_96 (retI h)
    · rw [if_neg c1] at h
      refine J_ic 10 dX0_canBe_9 rfl (1 : Int32) kic_1 ?_
      refine J_istore_n (i := 3) 11 [(3, 1, .int (1 : Int32)), (0, 1, va_rf l0), (1, 1, .int l1), (2, 1, .int l2)] dX0_canBe_10 rfl rfl (Nat.le_of_ble_eq_true rfl) rfl ?_
      refine J_ic 12 dX0_canBe_11 rfl (0 : Int32) kic_0 ?_
      refine J_istore (i := 4) 14 [(4, 1, .int (0 : Int32)), (3, 1, .int (1 : Int32)), (0, 1, va_rf l0), (1, 1, .int l1), (2, 1, .int l2)] dX0_canBe_12 rfl (Nat.le_of_ble_eq_true rfl) rfl ?_
      refine J.pick [2, 3, 4, 1, 0] rfl ?_
      refine jX0_canBe_c14 hγ l0 l1 l2 (fun x2 τ3 h => ?_) FUEL (1 : Int32) (0 : Int32) σ h
      · refine J_iload_n (i := 1) 1 76 dX0_canBe_75 rfl rfl rfl ?_
        refine J_iload_n (i := 3) 3 77 dX0_canBe_76 rfl rfl rfl ?_
        refine J_if_eq 86 80 dX0_canBe_77 (by decide) rfl (fun c4 => ?_) (fun c4 => ?_)
        · rw [if_pos c4] at h
          refine J_ic 87 dX0_canBe_86 rfl (0 : Int32) kic_0 ?_
          refine J_ior 88 dX0_canBe_87 rfl ?_
          refine J_istore_n (i := 1) 89 [(1, 1, .int (l1 ||| (0 : Int32))), (0, 1, va_rf l0), (2, 1, .int l2), (3, 1, .int x2)] dX0_canBe_88 rfl rfl (Nat.le_of_ble_eq_true rfl) rfl ?_
          refine J_iinc (i := 2) (v := l2 + (1 : Int32)) 2 92 [(2, 1, .int (l2 + (1 : Int32))), (1, 1, .int (l1 ||| (0 : Int32))), (0, 1, va_rf l0), (3, 1, .int x2)] dX0_canBe_89 rfl rfl (Nat.le_of_ble_eq_true rfl) (by rw [kic_1]) rfl ?_
          refine J_goto 4 dX0_canBe_92 (by decide) ?_
          refine J.pick [2, 1, 0] rfl ?_
          exact ih (l1 ||| (0 : Int32)) (l2 + (1 : Int32)) τ3 h
        · rw [if_neg c4] at h
          refine J_ic 81 dX0_canBe_80 rfl (1 : Int32) kic_1 ?_
          refine J_iload_n (i := 2) 2 82 dX0_canBe_81 rfl rfl rfl ?_
          refine J_ishl 83 dX0_canBe_82 rfl ?_
          refine J_goto 87 dX0_canBe_83 (by decide) ?_
          refine J_ior 88 dX0_canBe_87 rfl ?_
          refine J_istore_n (i := 1) 89 [(1, 1, .int (l1 ||| ((1 : Int32) <<< (l2 &&& 31)))), (0, 1, va_rf l0), (2, 1, .int l2), (3, 1, .int x2)] dX0_canBe_88 rfl rfl (Nat.le_of_ble_eq_true rfl) rfl ?_
          refine J_iinc (i := 2) (v := l2 + (1 : Int32)) 2 92 [(2, 1, .int (l2 + (1 : Int32))), (1, 1, .int (l1 ||| ((1 : Int32) <<< (l2 &&& 31)))), (0, 1, va_rf l0), (3, 1, .int x2)] dX0_canBe_89 rfl rfl (Nat.le_of_ble_eq_true rfl) (by rw [kic_1]) rfl ?_
          refine J_goto 4 dX0_canBe_92 (by decide) ?_
          refine J.pick [2, 1, 0] rfl ?_
          exact ih (l1 ||| ((1 : Int32) <<< (l2 &&& 31))) (l2 + (1 : Int32)) τ3 h
def X0_canBe (l0 : Option Nat) (σ : Hp) : Option (Int32 × Hp) :=
  X0_canBe_c4 l0  FUEL (0 : Int32) (0 : Int32) σ
set_option maxHeartbeats 4000000 in
theorem sX0_canBe {γ : GP} (hγ : GOK γ) (l0 : Option Nat) (σ : Hp) (q : (Int32 × Hp)) (h : X0_canBe l0 σ = some q) : Rn γ mX0_canBe yX0_canBe [va_rf l0] (σ, .inr (some (.int q.1)), q.2) := by
  refine J_m hγ ykX0_canBe rfl [(1, va_rf l0)] (cats_r cats_nil) (Nat.le_of_ble_eq_true rfl) ?_
  show J γ mX0_canBe _ σ 0 [(0, 1, va_rf l0)] []
  unfold X0_canBe at h
  refine J_ic 1 dX0_canBe_0 rfl (0 : Int32) kic_0 ?_
  refine J_istore_n (i := 1) 2 [(1, 1, .int (0 : Int32)), (0, 1, va_rf l0)] dX0_canBe_1 rfl rfl (Nat.le_of_ble_eq_true rfl) rfl ?_
  refine J_ic 3 dX0_canBe_2 rfl (0 : Int32) kic_0 ?_
  refine J_istore_n (i := 2) 4 [(2, 1, .int (0 : Int32)), (1, 1, .int (0 : Int32)), (0, 1, va_rf l0)] dX0_canBe_3 rfl rfl (Nat.le_of_ble_eq_true rfl) rfl ?_
  refine J.pick [2, 1, 0] rfl ?_
  refine jX0_canBe_c4 hγ l0  FUEL (0 : Int32) (0 : Int32) σ h
abbrev mX0_in : MP := (cX0_in, "MissCurves", 6, (Option.some FieldType.boolean), 0, "in", [])
theorem ykX0_in : YK yX0_in mX0_in 3 := ⟨q486, q128, ⟨by decide, by decide⟩, by decide +kernel, Nat.le_of_ble_eq_true rfl, by decide, rfl, rfl⟩
def X0_in (l0 : Int64) (l2 : Int64) (l4 : Int64) (σ : Hp) : Option (Int32 × Hp) :=
  if (lg_cmp l0 l2) < 0 then
    some ((0 : Int32), σ)
  else
    if 0 < (lg_cmp l0 l4) then
      some ((0 : Int32), σ)
    else
      some ((1 : Int32), σ)
set_option maxHeartbeats 4000000 in
theorem sX0_in {γ : GP} (hγ : GOK γ) (l0 : Int64) (l2 : Int64) (l4 : Int64) (σ : Hp) (q : (Int32 × Hp)) (h : X0_in l0 l2 l4 σ = some q) : Rn γ mX0_in yX0_in [.long l0, .long l2, .long l4] (σ, .inr (some (.int q.1)), q.2) := by
  refine J_m hγ ykX0_in rfl [(2, .long l0), (2, .long l2), (2, .long l4)] (cats_l (cats_l (cats_l cats_nil))) (Nat.le_of_ble_eq_true rfl) ?_
  show J γ mX0_in _ σ 0 [(0, 2, .long l0), (2, 2, .long l2), (4, 2, .long l4)] []
  unfold X0_in at h
  refine J_lload_n (i := 0) 0 1 dX0_in_0 rfl rfl rfl ?_
  refine J_lload_n (i := 2) 1 2 dX0_in_1 rfl rfl rfl ?_
  refine J_lcmp 3 dX0_in_2 rfl ?_
  refine J_if_lt 17 6 dX0_in_3 (by decide) rfl (fun c1 => ?_) (fun c1 => ?_)
  · rw [if_pos c1] at h
    refine J_ic 18 dX0_in_17 rfl (0 : Int32) kic_0 ?_
    exact J_zret rfl (by decide) dX0_in_18 (retI h)
  · rw [if_neg c1] at h
    refine J_lload_n (i := 0) 0 7 dX0_in_6 rfl rfl rfl ?_
    refine J_lload (i := 4) 2 9 dX0_in_7 rfl rfl ?_
    refine J_lcmp 10 dX0_in_9 rfl ?_
    refine J_if_gt 17 13 dX0_in_10 (by decide) rfl (fun c3 => ?_) (fun c3 => ?_)
    · rw [if_pos c3] at h
      refine J_ic 18 dX0_in_17 rfl (0 : Int32) kic_0 ?_
      exact J_zret rfl (by decide) dX0_in_18 (retI h)
    · rw [if_neg c3] at h
      refine J_ic 14 dX0_in_13 rfl (1 : Int32) kic_1 ?_
      refine J_goto 18 dX0_in_14 (by decide) ?_
      exact J_zret rfl (by decide) dX0_in_18 (retI h)
abbrev mX0_has : MP := (cX0_has, "MissCurves", 2, (Option.some FieldType.boolean), 0, "has", [])
theorem ykX0_has : YK yX0_has mX0_has 2 := ⟨q2042, q128, ⟨by decide, by decide⟩, by decide +kernel, Nat.le_of_ble_eq_true rfl, by decide, rfl, rfl⟩
def X0_has (l0 : Int32) (l1 : Int32) (σ : Hp) : Option (Int32 × Hp) :=
  if ((l0 >>> (l1 &&& 31)) &&& (1 : Int32)) = (1 : Int32) then
    some ((1 : Int32), σ)
  else
    some ((0 : Int32), σ)
set_option maxHeartbeats 4000000 in
theorem sX0_has {γ : GP} (hγ : GOK γ) (l0 : Int32) (l1 : Int32) (σ : Hp) (q : (Int32 × Hp)) (h : X0_has l0 l1 σ = some q) : Rn γ mX0_has yX0_has [.int l0, .int l1] (σ, .inr (some (.int q.1)), q.2) := by
  refine J_m hγ ykX0_has rfl [(1, .int l0), (1, .int l1)] (cats_i (cats_i cats_nil)) (Nat.le_of_ble_eq_true rfl) ?_
  show J γ mX0_has _ σ 0 [(0, 1, .int l0), (1, 1, .int l1)] []
  unfold X0_has at h
  refine J_iload_n (i := 0) 0 1 dX0_has_0 rfl rfl rfl ?_
  refine J_iload_n (i := 1) 1 2 dX0_has_1 rfl rfl rfl ?_
  refine J_ishr 3 dX0_has_2 rfl ?_
  refine J_ic 4 dX0_has_3 rfl (1 : Int32) kic_1 ?_
  refine J_iand 5 dX0_has_4 rfl ?_
  refine J_ic 6 dX0_has_5 rfl (1 : Int32) kic_1 ?_
  refine J_icmp_ne 13 9 dX0_has_6 (by decide) rfl (fun c1 => ?_) (fun c1 => ?_)
  · rw [if_neg c1] at h
    refine J_ic 14 dX0_has_13 rfl (0 : Int32) kic_0 ?_
    exact J_zret rfl (by decide) dX0_has_14 (retI h)
  · rw [if_pos c1] at h
    refine J_ic 10 dX0_has_9 rfl (1 : Int32) kic_1 ?_
    refine J_goto 14 dX0_has_10 (by decide) ?_
    exact J_zret rfl (by decide) dX0_has_14 (retI h)
abbrev mX0_mostAlike : MP := (cX0_mostAlike, "MissCurves", 7, (Option.some FieldType.int), 2, "mostAlike", [])
theorem ykX0_mostAlike : YK yX0_mostAlike mX0_mostAlike 2 := ⟨q2039, q128, ⟨by decide, by decide⟩, by decide +kernel, Nat.le_of_ble_eq_true rfl, by decide, rfl, rfl⟩
def X0_mostAlike_c17 (l0 : Option Nat) (l1 : Int32) (l2 : Int32) (l3 : Int32) (l4 : Int32) (k80 : Int32 → Hp → Option (Int32 × Hp)) : Nat → Int32 → Int32 → Hp → Option (Int32 × Hp)
  | 0, _, _, _ => none
  | n + 1, l5, l6, σ =>
    if (4 : Int32) ≤ l6 then
      k80 l5 σ
    else
      (X0_has l1 l4 σ).bind fun q2 =>
      if q2.1 = 0 then
        X0_mostAlike_c17 l0 l1 l2 l3 l4 k80 n (l5 + (0 : Int32)) (l6 + (1 : Int32)) q2.2
      else
        (X0_has l1 l6 q2.2).bind fun q4 =>
        if q4.1 = 0 then
          X0_mostAlike_c17 l0 l1 l2 l3 l4 k80 n (l5 + (0 : Int32)) (l6 + (1 : Int32)) q4.2
        else
          (cT q4.2 l0 0).bind fun b7 =>
          (X0_book l0 l4 q4.2).bind fun q6 =>
          (cT q6.2 q6.1 3).bind fun b9 =>
          (X3_misses q6.1 l2 q6.2).bind fun q8 =>
          (cT q8.2 l0 0).bind fun b11 =>
          (X0_book l0 l6 q8.2).bind fun q10 =>
          (cT q10.2 q10.1 3).bind fun b13 =>
          (X3_misses q10.1 l2 q10.2).bind fun q12 =>
          if q8.1 = q12.1 then
            X0_mostAlike_c17 l0 l1 l2 l3 l4 k80 n (l5 + (1 : Int32)) (l6 + (1 : Int32)) q12.2
          else
            X0_mostAlike_c17 l0 l1 l2 l3 l4 k80 n (l5 + (0 : Int32)) (l6 + (1 : Int32)) q12.2
set_option maxHeartbeats 4000000 in
theorem jX0_mostAlike_c17 {γ : GP} {σ0 : Hp} {q : (Int32 × Hp)} (hγ : GOK γ) (l0 : Option Nat) (l1 : Int32) (l2 : Int32) (l3 : Int32) (l4 : Int32) {k80 : Int32 → Hp → Option (Int32 × Hp)} (hk80 : ∀ (l5 : Int32) (σ : Hp), k80 l5 σ = some q → J γ mX0_mostAlike (σ0, .inr (some (.int q.1)), q.2) σ 80 [(0, 1, va_rf l0), (1, 1, .int l1), (2, 1, .int l2), (3, 1, .int l3), (4, 1, .int l4), (5, 1, .int l5)] []) : ∀ (n : Nat) (l5 : Int32) (l6 : Int32) (σ : Hp), X0_mostAlike_c17 l0 l1 l2 l3 l4 k80 n l5 l6 σ = some q → J γ mX0_mostAlike (σ0, .inr (some (.int q.1)), q.2) σ 17 [(0, 1, va_rf l0), (1, 1, .int l1), (2, 1, .int l2), (3, 1, .int l3), (4, 1, .int l4), (5, 1, .int l5), (6, 1, .int l6)] [] := by
  intro n
  induction n with
  | zero => intro l5 l6 σ h; exact nomatch (show none = some q from h)
  | succ n ih =>
    intro l5 l6 σ h
    rw [X0_mostAlike_c17] at h
    refine J_iload (i := 6) 6 19 dX0_mostAlike_17 rfl rfl ?_
    refine J_ic 20 dX0_mostAlike_19 rfl (4 : Int32) kic_4 ?_
    refine J_icmp_ge 80 23 dX0_mostAlike_20 (by decide) rfl (fun c1 => ?_) (fun c1 => ?_)
    · rw [if_pos c1] at h
      refine J.pick [0, 1, 2, 3, 4, 5] rfl ?_
      exact hk80 l5 σ h
    · rw [if_neg c1] at h
      refine J_iload (i := 5) 5 25 dX0_mostAlike_23 rfl rfl ?_
      refine J_iload_n (i := 1) 1 26 dX0_mostAlike_25 rfl rfl rfl ?_
      refine J_iload (i := 4) 4 28 dX0_mostAlike_26 rfl rfl ?_
      obtain ⟨q2, hq2, h⟩ := some_of_bind h
      refine J_cSi 31 dX0_mostAlike_28 rfl ykX0_has (Or.inl q2040) q2041 (Nat.le_of_ble_eq_true rfl) (cs_int cs_nil) (by decide) [.int l1, .int l4] rfl rfl (sX0_has hγ l1 l4 σ q2 hq2) ?_
      refine J_if_eq 70 34 dX0_mostAlike_31 (by decide) rfl (fun c3 => ?_) (fun c3 => ?_)
      · rw [if_pos c3] at h
        refine J_ic 71 dX0_mostAlike_70 rfl (0 : Int32) kic_0 ?_
        refine J_iadd 72 dX0_mostAlike_71 rfl ?_
        refine J_istore (i := 5) 74 [(5, 1, .int (l5 + (0 : Int32))), (0, 1, va_rf l0), (1, 1, .int l1), (2, 1, .int l2), (3, 1, .int l3), (4, 1, .int l4), (6, 1, .int l6)] dX0_mostAlike_72 rfl (Nat.le_of_ble_eq_true rfl) rfl ?_
        refine J_iinc (i := 6) (v := l6 + (1 : Int32)) 6 77 [(6, 1, .int (l6 + (1 : Int32))), (5, 1, .int (l5 + (0 : Int32))), (0, 1, va_rf l0), (1, 1, .int l1), (2, 1, .int l2), (3, 1, .int l3), (4, 1, .int l4)] dX0_mostAlike_74 rfl rfl (Nat.le_of_ble_eq_true rfl) (by rw [kic_1]) rfl ?_
        refine J_goto 17 dX0_mostAlike_77 (by decide) ?_
        refine J.pick [2, 3, 4, 5, 6, 1, 0] rfl ?_
        exact ih (l5 + (0 : Int32)) (l6 + (1 : Int32)) q2.2 h
      · rw [if_neg c3] at h
        refine J_iload_n (i := 1) 1 35 dX0_mostAlike_34 rfl rfl rfl ?_
        refine J_iload (i := 6) 6 37 dX0_mostAlike_35 rfl rfl ?_
        obtain ⟨q4, hq4, h⟩ := some_of_bind h
        refine J_cSi 40 dX0_mostAlike_37 rfl ykX0_has (Or.inl q2040) q2041 (Nat.le_of_ble_eq_true rfl) (cs_int cs_nil) (by decide) [.int l1, .int l6] rfl rfl (sX0_has hγ l1 l6 q2.2 q4 hq4) ?_
        refine J_if_eq 70 43 dX0_mostAlike_40 (by decide) rfl (fun c5 => ?_) (fun c5 => ?_)
        · rw [if_pos c5] at h
          refine J_ic 71 dX0_mostAlike_70 rfl (0 : Int32) kic_0 ?_
          refine J_iadd 72 dX0_mostAlike_71 rfl ?_
          refine J_istore (i := 5) 74 [(5, 1, .int (l5 + (0 : Int32))), (0, 1, va_rf l0), (1, 1, .int l1), (2, 1, .int l2), (3, 1, .int l3), (4, 1, .int l4), (6, 1, .int l6)] dX0_mostAlike_72 rfl (Nat.le_of_ble_eq_true rfl) rfl ?_
          refine J_iinc (i := 6) (v := l6 + (1 : Int32)) 6 77 [(6, 1, .int (l6 + (1 : Int32))), (5, 1, .int (l5 + (0 : Int32))), (0, 1, va_rf l0), (1, 1, .int l1), (2, 1, .int l2), (3, 1, .int l3), (4, 1, .int l4)] dX0_mostAlike_74 rfl rfl (Nat.le_of_ble_eq_true rfl) (by rw [kic_1]) rfl ?_
          refine J_goto 17 dX0_mostAlike_77 (by decide) ?_
          refine J.pick [2, 3, 4, 5, 6, 1, 0] rfl ?_
          exact ih (l5 + (0 : Int32)) (l6 + (1 : Int32)) q4.2 h
        · rw [if_neg c5] at h
          refine J_aload_n (i := 0) 0 44 dX0_mostAlike_43 rfl rfl rfl ?_
          refine J_iload (i := 4) 4 46 dX0_mostAlike_44 rfl rfl ?_
          obtain ⟨b7, hb7, h⟩ := some_of_bind h
          obtain ⟨q6, hq6, h⟩ := some_of_bind h
          refine J_cVr 49 dX0_mostAlike_46 rfl ykX0_book (Or.inl q495) q497 qs1 (Nat.le_of_ble_eq_true rfl) (cs_int cs_nil) (by decide) [.int l4] hb7 (by decide) rfl rfl rfl (sX0_book hγ l0 l4 q4.2 q6 hq6) ?_
          refine J_iload_n (i := 2) 2 50 dX0_mostAlike_49 rfl rfl rfl ?_
          obtain ⟨b9, hb9, h⟩ := some_of_bind h
          obtain ⟨q8, hq8, h⟩ := some_of_bind h
          refine J_cVi 53 dX0_mostAlike_50 rfl ykX3_misses (Or.inl q1643) q1644 q1645 (Nat.le_of_ble_eq_true rfl) (cs_int cs_nil) (by decide) [.int l2] hb9 (by decide) rfl rfl rfl (sX3_misses hγ q6.1 l2 q6.2 q8 hq8) ?_
          refine J_aload_n (i := 0) 0 54 dX0_mostAlike_53 rfl rfl rfl ?_
          refine J_iload (i := 6) 6 56 dX0_mostAlike_54 rfl rfl ?_
          obtain ⟨b11, hb11, h⟩ := some_of_bind h
          obtain ⟨q10, hq10, h⟩ := some_of_bind h
          refine J_cVr 59 dX0_mostAlike_56 rfl ykX0_book (Or.inl q495) q497 qs1 (Nat.le_of_ble_eq_true rfl) (cs_int (cs_int cs_nil)) (by decide) [.int l6] hb11 (by decide) rfl rfl rfl (sX0_book hγ l0 l6 q8.2 q10 hq10) ?_
          refine J_iload_n (i := 2) 2 60 dX0_mostAlike_59 rfl rfl rfl ?_
          obtain ⟨b13, hb13, h⟩ := some_of_bind h
          obtain ⟨q12, hq12, h⟩ := some_of_bind h
          refine J_cVi 63 dX0_mostAlike_60 rfl ykX3_misses (Or.inl q1643) q1644 q1645 (Nat.le_of_ble_eq_true rfl) (cs_int (cs_int cs_nil)) (by decide) [.int l2] hb13 (by decide) rfl rfl rfl (sX3_misses hγ q10.1 l2 q10.2 q12 hq12) ?_
          refine J_icmp_ne 70 66 dX0_mostAlike_63 (by decide) rfl (fun c14 => ?_) (fun c14 => ?_)
          · rw [if_neg c14] at h
            refine J_ic 71 dX0_mostAlike_70 rfl (0 : Int32) kic_0 ?_
            refine J_iadd 72 dX0_mostAlike_71 rfl ?_
            refine J_istore (i := 5) 74 [(5, 1, .int (l5 + (0 : Int32))), (0, 1, va_rf l0), (1, 1, .int l1), (2, 1, .int l2), (3, 1, .int l3), (4, 1, .int l4), (6, 1, .int l6)] dX0_mostAlike_72 rfl (Nat.le_of_ble_eq_true rfl) rfl ?_
            refine J_iinc (i := 6) (v := l6 + (1 : Int32)) 6 77 [(6, 1, .int (l6 + (1 : Int32))), (5, 1, .int (l5 + (0 : Int32))), (0, 1, va_rf l0), (1, 1, .int l1), (2, 1, .int l2), (3, 1, .int l3), (4, 1, .int l4)] dX0_mostAlike_74 rfl rfl (Nat.le_of_ble_eq_true rfl) (by rw [kic_1]) rfl ?_
            refine J_goto 17 dX0_mostAlike_77 (by decide) ?_
            refine J.pick [2, 3, 4, 5, 6, 1, 0] rfl ?_
            exact ih (l5 + (0 : Int32)) (l6 + (1 : Int32)) q12.2 h
          · rw [if_pos c14] at h
            refine J_ic 67 dX0_mostAlike_66 rfl (1 : Int32) kic_1 ?_
            refine J_goto 71 dX0_mostAlike_67 (by decide) ?_
            refine J_iadd 72 dX0_mostAlike_71 rfl ?_
            refine J_istore (i := 5) 74 [(5, 1, .int (l5 + (1 : Int32))), (0, 1, va_rf l0), (1, 1, .int l1), (2, 1, .int l2), (3, 1, .int l3), (4, 1, .int l4), (6, 1, .int l6)] dX0_mostAlike_72 rfl (Nat.le_of_ble_eq_true rfl) rfl ?_
            refine J_iinc (i := 6) (v := l6 + (1 : Int32)) 6 77 [(6, 1, .int (l6 + (1 : Int32))), (5, 1, .int (l5 + (1 : Int32))), (0, 1, va_rf l0), (1, 1, .int l1), (2, 1, .int l2), (3, 1, .int l3), (4, 1, .int l4)] dX0_mostAlike_74 rfl rfl (Nat.le_of_ble_eq_true rfl) (by rw [kic_1]) rfl ?_
            refine J_goto 17 dX0_mostAlike_77 (by decide) ?_
            refine J.pick [2, 3, 4, 5, 6, 1, 0] rfl ?_
            exact ih (l5 + (1 : Int32)) (l6 + (1 : Int32)) q12.2 h
def X0_mostAlike_c5 (l0 : Option Nat) (l1 : Int32) (l2 : Int32)  : Nat → Int32 → Int32 → Hp → Option (Int32 × Hp)
  | 0, _, _, _ => none
  | n + 1, l3, l4, σ =>
    if (4 : Int32) ≤ l4 then
      some (l3, σ)
    else
      X0_mostAlike_c17 l0 l1 l2 l3 l4 (fun x2 τ3 =>
        X0_mostAlike_c5 l0 l1 l2 n (imax l3 x2) (l4 + (1 : Int32)) τ3) FUEL (0 : Int32) (0 : Int32) σ
set_option maxHeartbeats 4000000 in
theorem jX0_mostAlike_c5 {γ : GP} {σ0 : Hp} {q : (Int32 × Hp)} (hγ : GOK γ) (l0 : Option Nat) (l1 : Int32) (l2 : Int32)  : ∀ (n : Nat) (l3 : Int32) (l4 : Int32) (σ : Hp), X0_mostAlike_c5 l0 l1 l2 n l3 l4 σ = some q → J γ mX0_mostAlike (σ0, .inr (some (.int q.1)), q.2) σ 5 [(0, 1, va_rf l0), (1, 1, .int l1), (2, 1, .int l2), (3, 1, .int l3), (4, 1, .int l4)] [] := by
  intro n
  induction n with
  | zero => intro l3 l4 σ h; exact nomatch (show none = some q from h)
  | succ n ih =>
    intro l3 l4 σ h
    rw [X0_mostAlike_c5] at h
    refine J_iload (i := 4) 4 7 dX0_mostAlike_5 rfl rfl ?_
    refine J_ic 8 dX0_mostAlike_7 rfl (4 : Int32) kic_4 ?_
    refine J_icmp_ge 93 11 dX0_mostAlike_8 (by decide) rfl (fun c1 => ?_) (fun c1 => ?_)
    · rw [if_pos c1] at h
      refine J_iload_n (i := 3) 3 94 dX0_mostAlike_93 rfl rfl rfl ?_
      exact J_iret rfl dX0_mostAlike_94 (retI h)
    · rw [if_neg c1] at h
      refine J_ic 12 dX0_mostAlike_11 rfl (0 : Int32) kic_0 ?_
      refine J_istore (i := 5) 14 [(5, 1, .int (0 : Int32)), (0, 1, va_rf l0), (1, 1, .int l1), (2, 1, .int l2), (3, 1, .int l3), (4, 1, .int l4)] dX0_mostAlike_12 rfl (Nat.le_of_ble_eq_true rfl) rfl ?_
      refine J_ic 15 dX0_mostAlike_14 rfl (0 : Int32) kic_0 ?_
      refine J_istore (i := 6) 17 [(6, 1, .int (0 : Int32)), (5, 1, .int (0 : Int32)), (0, 1, va_rf l0), (1, 1, .int l1), (2, 1, .int l2), (3, 1, .int l3), (4, 1, .int l4)] dX0_mostAlike_15 rfl (Nat.le_of_ble_eq_true rfl) rfl ?_
      refine J.pick [2, 3, 4, 5, 6, 1, 0] rfl ?_
      refine jX0_mostAlike_c17 hγ l0 l1 l2 l3 l4 (fun x2 τ3 h => ?_) FUEL (0 : Int32) (0 : Int32) σ h
      · refine J_iload_n (i := 3) 3 81 dX0_mostAlike_80 rfl rfl rfl ?_
        refine J_iload (i := 5) 5 83 dX0_mostAlike_81 rfl rfl ?_
        refine J_mmaxI q740 (Nat.le_of_ble_eq_true rfl) cs_nil (by decide) 86 dX0_mostAlike_83 rfl ?_
        refine J_istore_n (i := 3) 87 [(3, 1, .int (imax l3 x2)), (0, 1, va_rf l0), (1, 1, .int l1), (2, 1, .int l2), (4, 1, .int l4), (5, 1, .int x2)] dX0_mostAlike_86 rfl rfl (Nat.le_of_ble_eq_true rfl) rfl ?_
        refine J_iinc (i := 4) (v := l4 + (1 : Int32)) 4 90 [(4, 1, .int (l4 + (1 : Int32))), (3, 1, .int (imax l3 x2)), (0, 1, va_rf l0), (1, 1, .int l1), (2, 1, .int l2), (5, 1, .int x2)] dX0_mostAlike_87 rfl rfl (Nat.le_of_ble_eq_true rfl) (by rw [kic_1]) rfl ?_
        refine J_goto 5 dX0_mostAlike_90 (by decide) ?_
        refine J.pick [2, 3, 4, 1, 0] rfl ?_
        exact ih (imax l3 x2) (l4 + (1 : Int32)) τ3 h
def X0_mostAlike (l0 : Option Nat) (l1 : Int32) (l2 : Int32) (σ : Hp) : Option (Int32 × Hp) :=
  X0_mostAlike_c5 l0 l1 l2  FUEL (0 : Int32) (0 : Int32) σ
set_option maxHeartbeats 4000000 in
theorem sX0_mostAlike {γ : GP} (hγ : GOK γ) (l0 : Option Nat) (l1 : Int32) (l2 : Int32) (σ : Hp) (q : (Int32 × Hp)) (h : X0_mostAlike l0 l1 l2 σ = some q) : Rn γ mX0_mostAlike yX0_mostAlike [va_rf l0, .int l1, .int l2] (σ, .inr (some (.int q.1)), q.2) := by
  refine J_m hγ ykX0_mostAlike rfl [(1, va_rf l0), (1, .int l1), (1, .int l2)] (cats_r (cats_i (cats_i cats_nil))) (Nat.le_of_ble_eq_true rfl) ?_
  show J γ mX0_mostAlike _ σ 0 [(0, 1, va_rf l0), (1, 1, .int l1), (2, 1, .int l2)] []
  unfold X0_mostAlike at h
  refine J_ic 1 dX0_mostAlike_0 rfl (0 : Int32) kic_0 ?_
  refine J_istore_n (i := 3) 2 [(3, 1, .int (0 : Int32)), (0, 1, va_rf l0), (1, 1, .int l1), (2, 1, .int l2)] dX0_mostAlike_1 rfl rfl (Nat.le_of_ble_eq_true rfl) rfl ?_
  refine J_ic 3 dX0_mostAlike_2 rfl (0 : Int32) kic_0 ?_
  refine J_istore (i := 4) 5 [(4, 1, .int (0 : Int32)), (3, 1, .int (0 : Int32)), (0, 1, va_rf l0), (1, 1, .int l1), (2, 1, .int l2)] dX0_mostAlike_3 rfl (Nat.le_of_ble_eq_true rfl) rfl ?_
  refine J.pick [2, 3, 4, 1, 0] rfl ?_
  refine jX0_mostAlike_c5 hγ l0 l1 l2  FUEL (0 : Int32) (0 : Int32) σ h
abbrev mX0_ask : MP := (cX0_ask, "MissCurves", 7, (Option.some FieldType.int), 3, "ask", [])
theorem ykX0_ask : YK yX0_ask mX0_ask 1 := ⟨q2034, q128, ⟨by decide, by decide⟩, by decide +kernel, Nat.le_of_ble_eq_true rfl, by decide, rfl, rfl⟩
def X0_ask_c31 (l0 : Option Nat) (l1 : Int32) (l2 : Int32) (k69 : Int32 → Int32 → Hp → Option (Int32 × Hp)) : Nat → Int32 → Int32 → Int32 → Hp → Option (Int32 × Hp)
  | 0, _, _, _, _ => none
  | n + 1, l3, l4, l5, σ =>
    if (24 : Int32) < l5 then
      k69 l3 l4 σ
    else
      (cT σ l0 0).bind fun b3 =>
      (X0_mostAlike l0 l2 l5 σ).bind fun q2 =>
      if q2.1 < l3 then
        X0_ask_c31 l0 l1 l2 k69 n q2.1 l5 (l5 + (1 : Int32)) q2.2
      else
        X0_ask_c31 l0 l1 l2 k69 n l3 l4 (l5 + (1 : Int32)) q2.2
set_option maxHeartbeats 4000000 in
theorem jX0_ask_c31 {γ : GP} {σ0 : Hp} {q : (Int32 × Hp)} (hγ : GOK γ) (l0 : Option Nat) (l1 : Int32) (l2 : Int32) {k69 : Int32 → Int32 → Hp → Option (Int32 × Hp)} (hk69 : ∀ (l3 : Int32) (l4 : Int32) (σ : Hp), k69 l3 l4 σ = some q → J γ mX0_ask (σ0, .inr (some (.int q.1)), q.2) σ 69 [(1, 1, .int l1), (3, 1, .int l3), (4, 1, .int l4)] []) : ∀ (n : Nat) (l3 : Int32) (l4 : Int32) (l5 : Int32) (σ : Hp), X0_ask_c31 l0 l1 l2 k69 n l3 l4 l5 σ = some q → J γ mX0_ask (σ0, .inr (some (.int q.1)), q.2) σ 31 [(0, 1, va_rf l0), (1, 1, .int l1), (2, 1, .int l2), (3, 1, .int l3), (4, 1, .int l4), (5, 1, .int l5)] [] := by
  intro n
  induction n with
  | zero => intro l3 l4 l5 σ h; exact nomatch (show none = some q from h)
  | succ n ih =>
    intro l3 l4 l5 σ h
    rw [X0_ask_c31] at h
    refine J_iload (i := 5) 5 33 dX0_ask_31 rfl rfl ?_
    refine J_bipush 35 dX0_ask_33 rfl (24 : Int32) kbp_24 ?_
    refine J_icmp_gt 69 38 dX0_ask_35 (by decide) rfl (fun c1 => ?_) (fun c1 => ?_)
    · rw [if_pos c1] at h
      refine J.pick [1, 3, 4] rfl ?_
      exact hk69 l3 l4 σ h
    · rw [if_neg c1] at h
      refine J_aload_n (i := 0) 0 39 dX0_ask_38 rfl rfl rfl ?_
      refine J_iload_n (i := 2) 2 40 dX0_ask_39 rfl rfl rfl ?_
      refine J_iload (i := 5) 5 42 dX0_ask_40 rfl rfl ?_
      obtain ⟨b3, hb3, h⟩ := some_of_bind h
      obtain ⟨q2, hq2, h⟩ := some_of_bind h
      refine J_cVi 45 dX0_ask_42 rfl ykX0_mostAlike (Or.inl q2036) q2038 qs34 (Nat.le_of_ble_eq_true rfl) cs_nil (by decide) [.int l2, .int l5] hb3 (by decide) rfl rfl rfl (sX0_mostAlike hγ l0 l2 l5 σ q2 hq2) ?_
      refine J_istore (i := 6) 47 [(6, 1, .int q2.1), (0, 1, va_rf l0), (1, 1, .int l1), (2, 1, .int l2), (3, 1, .int l3), (4, 1, .int l4), (5, 1, .int l5)] dX0_ask_45 rfl (Nat.le_of_ble_eq_true rfl) rfl ?_
      refine J_iload (i := 6) 0 49 dX0_ask_47 rfl rfl ?_
      refine J_iload_n (i := 3) 4 50 dX0_ask_49 rfl rfl rfl ?_
      refine J_icmp_lt 56 53 dX0_ask_50 (by decide) rfl (fun c4 => ?_) (fun c4 => ?_)
      · rw [if_pos c4] at h
        refine J_iload (i := 6) 0 58 dX0_ask_56 rfl rfl ?_
        refine J_istore_n (i := 3) 59 [(3, 1, .int q2.1), (6, 1, .int q2.1), (0, 1, va_rf l0), (1, 1, .int l1), (2, 1, .int l2), (4, 1, .int l4), (5, 1, .int l5)] dX0_ask_58 rfl rfl (Nat.le_of_ble_eq_true rfl) rfl ?_
        refine J_iload (i := 5) 6 61 dX0_ask_59 rfl rfl ?_
        refine J_istore (i := 4) 63 [(4, 1, .int l5), (3, 1, .int q2.1), (6, 1, .int q2.1), (0, 1, va_rf l0), (1, 1, .int l1), (2, 1, .int l2), (5, 1, .int l5)] dX0_ask_61 rfl (Nat.le_of_ble_eq_true rfl) rfl ?_
        refine J_iinc (i := 5) (v := l5 + (1 : Int32)) 6 66 [(5, 1, .int (l5 + (1 : Int32))), (4, 1, .int l5), (3, 1, .int q2.1), (6, 1, .int q2.1), (0, 1, va_rf l0), (1, 1, .int l1), (2, 1, .int l2)] dX0_ask_63 rfl rfl (Nat.le_of_ble_eq_true rfl) (by rw [kic_1]) rfl ?_
        refine J_goto 31 dX0_ask_66 (by decide) ?_
        refine J.pick [4, 5, 6, 2, 1, 0] rfl ?_
        exact ih q2.1 l5 (l5 + (1 : Int32)) q2.2 h
      · rw [if_neg c4] at h
        refine J_goto 63 dX0_ask_53 (by decide) ?_
        refine J_iinc (i := 5) (v := l5 + (1 : Int32)) 6 66 [(5, 1, .int (l5 + (1 : Int32))), (6, 1, .int q2.1), (0, 1, va_rf l0), (1, 1, .int l1), (2, 1, .int l2), (3, 1, .int l3), (4, 1, .int l4)] dX0_ask_63 rfl rfl (Nat.le_of_ble_eq_true rfl) (by rw [kic_1]) rfl ?_
        refine J_goto 31 dX0_ask_66 (by decide) ?_
        refine J.pick [2, 3, 4, 5, 6, 0] rfl ?_
        exact ih l3 l4 (l5 + (1 : Int32)) q2.2 h
def X0_ask (l0 : Option Nat) (l1 : Int32) (σ : Hp) : Option (Int32 × Hp) :=
  (cT σ l0 0).bind fun b2 =>
  (X0_canBe l0  σ).bind fun q1 =>
  (X0_in l1.toInt64 (0 : Int64) (1 : Int64) q1.2).bind fun q3 =>
  if q3.1 = 0 then
    some ((-1 : Int32), q3.2)
  else
    if q1.1 = 0 then
      some ((-1 : Int32), q3.2)
    else
      X0_ask_c31 l0 l1 q1.1 (fun x6 x7 τ8 =>
        if l1 = 0 then
          some (x7, τ8)
        else
          some (x6, τ8)) FUEL (100000000 : Int32) (-1 : Int32) (0 : Int32) q3.2
set_option maxHeartbeats 4000000 in
theorem sX0_ask {γ : GP} (hγ : GOK γ) (l0 : Option Nat) (l1 : Int32) (σ : Hp) (q : (Int32 × Hp)) (h : X0_ask l0 l1 σ = some q) : Rn γ mX0_ask yX0_ask [va_rf l0, .int l1] (σ, .inr (some (.int q.1)), q.2) := by
  refine J_m hγ ykX0_ask rfl [(1, va_rf l0), (1, .int l1)] (cats_r (cats_i cats_nil)) (Nat.le_of_ble_eq_true rfl) ?_
  show J γ mX0_ask _ σ 0 [(0, 1, va_rf l0), (1, 1, .int l1)] []
  unfold X0_ask at h
  refine J_aload_n (i := 0) 0 1 dX0_ask_0 rfl rfl rfl ?_
  obtain ⟨b2, hb2, h⟩ := some_of_bind h
  obtain ⟨q1, hq1, h⟩ := some_of_bind h
  refine J_cVi 4 dX0_ask_1 rfl ykX0_canBe (Or.inl q2035) q2028 q2029 (Nat.le_of_ble_eq_true rfl) cs_nil (by decide) [] hb2 (by decide) rfl rfl rfl (sX0_canBe hγ l0  σ q1 hq1) ?_
  refine J_istore_n (i := 2) 5 [(2, 1, .int q1.1), (0, 1, va_rf l0), (1, 1, .int l1)] dX0_ask_4 rfl rfl (Nat.le_of_ble_eq_true rfl) rfl ?_
  refine J_ldcw (v := (100000000 : Int32)) 8 dX0_ask_5 rfl q1841 ?_
  refine J_istore_n (i := 3) 9 [(3, 1, .int (100000000 : Int32)), (2, 1, .int q1.1), (0, 1, va_rf l0), (1, 1, .int l1)] dX0_ask_8 rfl rfl (Nat.le_of_ble_eq_true rfl) rfl ?_
  refine J_ic 10 dX0_ask_9 rfl (-1 : Int32) kic_m1 ?_
  refine J_istore (i := 4) 12 [(4, 1, .int (-1 : Int32)), (3, 1, .int (100000000 : Int32)), (2, 1, .int q1.1), (0, 1, va_rf l0), (1, 1, .int l1)] dX0_ask_10 rfl (Nat.le_of_ble_eq_true rfl) rfl ?_
  refine J_iload_n (i := 1) 4 13 dX0_ask_12 rfl rfl rfl ?_
  refine J_i2l 14 dX0_ask_13 rfl ?_
  refine J_lconst 15 dX0_ask_14 rfl (0 : Int64) rfl ?_
  refine J_lconst 16 dX0_ask_15 rfl (1 : Int64) rfl ?_
  obtain ⟨q3, hq3, h⟩ := some_of_bind h
  refine J_cSi 19 dX0_ask_16 rfl ykX0_in (Or.inl q484) q485 (Nat.le_of_ble_eq_true rfl) cs_nil (by decide) [.long l1.toInt64, .long (0 : Int64), .long (1 : Int64)] rfl rfl (sX0_in hγ l1.toInt64 (0 : Int64) (1 : Int64) q1.2 q3 hq3) ?_
  refine J_if_eq 26 22 dX0_ask_19 (by decide) rfl (fun c4 => ?_) (fun c4 => ?_)
  · rw [if_pos c4] at h
    refine J_ic 27 dX0_ask_26 rfl (-1 : Int32) kic_m1 ?_
    exact J_iret rfl dX0_ask_27 (retI h)
  · rw [if_neg c4] at h
    refine J_iload_n (i := 2) 2 23 dX0_ask_22 rfl rfl rfl ?_
    refine J_if_ne 28 26 dX0_ask_23 (by decide) rfl (fun c5 => ?_) (fun c5 => ?_)
    · rw [if_neg c5] at h
      refine J_ic 29 dX0_ask_28 rfl (0 : Int32) kic_0 ?_
      refine J_istore (i := 5) 31 [(5, 1, .int (0 : Int32)), (4, 1, .int (-1 : Int32)), (3, 1, .int (100000000 : Int32)), (2, 1, .int q1.1), (0, 1, va_rf l0), (1, 1, .int l1)] dX0_ask_29 rfl (Nat.le_of_ble_eq_true rfl) rfl ?_
      refine J.pick [4, 5, 3, 2, 1, 0] rfl ?_
      refine jX0_ask_c31 hγ l0 l1 q1.1 (fun x6 x7 τ8 h => ?_) FUEL (100000000 : Int32) (-1 : Int32) (0 : Int32) q3.2 h
      · refine J_iload_n (i := 1) 0 70 dX0_ask_69 rfl rfl rfl ?_
        refine J_if_ne 78 73 dX0_ask_70 (by decide) rfl (fun c9 => ?_) (fun c9 => ?_)
        · rw [if_neg c9] at h
          refine J_iload_n (i := 3) 1 79 dX0_ask_78 rfl rfl rfl ?_
          exact J_iret rfl dX0_ask_79 (retI h)
        · rw [if_pos c9] at h
          refine J_iload (i := 4) 2 75 dX0_ask_73 rfl rfl ?_
          refine J_goto 79 dX0_ask_75 (by decide) ?_
          exact J_iret rfl dX0_ask_79 (retI h)
    · rw [if_pos c5] at h
      refine J_ic 27 dX0_ask_26 rfl (-1 : Int32) kic_m1 ?_
      exact J_iret rfl dX0_ask_27 (retI h)
abbrev mX0_tell : MP := (cX0_tell, "MissCurves", 2, (Option.some FieldType.int), 1, "tell", [])
theorem ykX0_tell : YK yX0_tell mX0_tell 1 := ⟨q633, q128, ⟨by decide, by decide⟩, by decide +kernel, Nat.le_of_ble_eq_true rfl, by decide, rfl, rfl⟩
theorem pk_z_236 {nm9 : String} : POK "MissCurves" nm9 123 [0] 10 .int := POK.one (by decide) rfl (Nat.le_of_ble_eq_true rfl) (Or.inl ⟨_, q391, Or.inl rfl⟩) rfl (by decide +kernel) (Or.inl rfl)
theorem fk_z_237 : FOK "MissCurves" 71 [0] 9 isR := FOK.one (by decide) rfl (Nat.le_of_ble_eq_true rfl) (Or.inl ⟨_, q390, Or.inl rfl⟩) rfl
def X0_tell (l0 : Option Nat) (l1 : Int32) (σ : Hp) : Option (Int32 × Hp) :=
  (pI σ l0 [0] 10 (imin l1 (0 : Int32))).bind fun σ1 =>
  if 0 ≤ l1 then
    some (l1, σ1)
  else
    (gR σ1 l0 [0] 9).bind fun v3 =>
    (aI 0 σ1 v3 (-l1)).bind fun v4 =>
    (sI 0 σ1 v3 (-l1) (v4 + (1 : Int32))).bind fun σ5 =>
    some (l1, σ5)
set_option maxHeartbeats 4000000 in
theorem sX0_tell {γ : GP} (hγ : GOK γ) (l0 : Option Nat) (l1 : Int32) (σ : Hp) (q : (Int32 × Hp)) (h : X0_tell l0 l1 σ = some q) : Rn γ mX0_tell yX0_tell [va_rf l0, .int l1] (σ, .inr (some (.int q.1)), q.2) := by
  refine J_m hγ ykX0_tell rfl [(1, va_rf l0), (1, .int l1)] (cats_r (cats_i cats_nil)) (Nat.le_of_ble_eq_true rfl) ?_
  show J γ mX0_tell _ σ 0 [(0, 1, va_rf l0), (1, 1, .int l1)] []
  unfold X0_tell at h
  refine J_aload_n (i := 0) 0 1 dX0_tell_0 rfl rfl rfl ?_
  refine J_iload_n (i := 1) 1 2 dX0_tell_1 rfl rfl rfl ?_
  refine J_ic 3 dX0_tell_2 rfl (0 : Int32) kic_0 ?_
  refine J_mminI q634 (Nat.le_of_ble_eq_true rfl) (cs_rf cs_nil) (by decide) 6 dX0_tell_3 rfl ?_
  obtain ⟨σ1, hσ1, h⟩ := some_of_bind h
  refine J_pI 9 dX0_tell_6 rfl pk_z_236 hσ1 ?_
  refine J_iload_n (i := 1) 1 10 dX0_tell_9 rfl rfl rfl ?_
  refine J_if_ge 24 13 dX0_tell_10 (by decide) rfl (fun c2 => ?_) (fun c2 => ?_)
  · rw [if_pos c2] at h
    refine J_iload_n (i := 1) 1 25 dX0_tell_24 rfl rfl rfl ?_
    exact J_iret rfl dX0_tell_25 (retI h)
  · rw [if_neg c2] at h
    refine J_aload_n (i := 0) 0 14 dX0_tell_13 rfl rfl rfl ?_
    obtain ⟨v3, hv3, h⟩ := some_of_bind h
    refine J_gR 17 dX0_tell_14 rfl fk_z_237 hv3 ?_
    refine J_iload_n (i := 1) 1 18 dX0_tell_17 rfl rfl rfl ?_
    refine J_ineg 19 dX0_tell_18 rfl ?_
    refine J_dup2ir 20 dX0_tell_19 rfl ?_
    obtain ⟨v4, hv4, h⟩ := some_of_bind h
    refine J_iald 21 dX0_tell_20 rfl hv4 ?_
    refine J_ic 22 dX0_tell_21 rfl (1 : Int32) kic_1 ?_
    refine J_iadd 23 dX0_tell_22 rfl ?_
    obtain ⟨σ5, hσ5, h⟩ := some_of_bind h
    refine J_iast 24 dX0_tell_23 rfl hσ5 ?_
    refine J_iload_n (i := 1) 1 25 dX0_tell_24 rfl rfl rfl ?_
    exact J_iret rfl dX0_tell_25 (retI h)
abbrev mX1_init : MP := (cX1_init, "MissCurves$Shop", 1, (Option.none : Option FieldType), 4, "<init>", [])
theorem ykX1_init : YK yX1_init mX1_init 0 := ⟨q192, q129, ⟨by decide, by decide⟩, by decide +kernel, Nat.le_of_ble_eq_true rfl, by decide, rfl, rfl⟩
theorem pk_z_238 : POK "MissCurves$Shop" "<init>" 12 [1] 0 (.object "java/util/ArrayList") := POK.one (by decide) rfl (Nat.le_of_ble_eq_true rfl) (Or.inl ⟨_, q292, Or.inl rfl⟩) rfl (by decide +kernel) (Or.inr ⟨rfl, rfl, rfl, _, q292, Or.inl rfl⟩)
theorem pk_z_239 : POK "MissCurves$Shop" "<init>" 18 [1] 1 (.array .int) := POK.one (by decide) rfl (Nat.le_of_ble_eq_true rfl) (Or.inl ⟨_, q294, Or.inl rfl⟩) rfl (by decide +kernel) (Or.inr ⟨rfl, rfl, rfl, _, q294, Or.inl rfl⟩)
theorem pk_z_240 : POK "MissCurves$Shop" "<init>" 24 [1] 2 (.array (.array .int)) := POK.one (by decide) rfl (Nat.le_of_ble_eq_true rfl) (Or.inl ⟨_, q296, Or.inl rfl⟩) rfl (by decide +kernel) (Or.inr ⟨rfl, rfl, rfl, _, q296, Or.inl rfl⟩)
theorem pk_z_241 : POK "MissCurves$Shop" "<init>" 30 [1] 3 (.object "MissCurves$Books") := POK.one (by decide) rfl (Nat.le_of_ble_eq_true rfl) (Or.inl ⟨_, q298, Or.inl rfl⟩) rfl (by decide +kernel) (Or.inr ⟨rfl, rfl, rfl, _, q298, Or.inl rfl⟩)
theorem pk_z_242 {nm9 : String} : POK "MissCurves$Shop" nm9 34 [1] 6 .int := POK.one (by decide) rfl (Nat.le_of_ble_eq_true rfl) (Or.inl ⟨_, q304, Or.inl rfl⟩) rfl (by decide +kernel) (Or.inl rfl)
def X1_init (l0 : Option Nat) (σ : Hp) : Option Hp :=
  l0.bind fun b1 =>
  (some (hsz σ)).bind fun b3 =>
  (J2_init (some (hsz σ))  (wN σ 31 0 3)).bind fun q2 =>
  (pR q2 l0 [1] 0 (some (hsz σ))).bind fun σ4 =>
  (nA 0 σ4 (4 : Int32)).bind fun σ5 =>
  (sI 0 σ5 (some (hsz σ4)) (0 : Int32) (0 : Int32)).bind fun σ6 =>
  (sI 0 σ6 (some (hsz σ4)) (1 : Int32) (1 : Int32)).bind fun σ7 =>
  (sI 0 σ7 (some (hsz σ4)) (2 : Int32) (0 : Int32)).bind fun σ8 =>
  (sI 0 σ8 (some (hsz σ4)) (3 : Int32) (0 : Int32)).bind fun σ9 =>
  (pR σ9 l0 [1] 1 (some (hsz σ4))).bind fun σ10 =>
  (nM 5 0 σ10 (6 : Int32) (2 : Int32)).bind fun σ11 =>
  (pR σ11 l0 [1] 2 (some (hsz σ10))).bind fun σ12 =>
  (some (hsz σ12)).bind fun b14 =>
  (X2_init (some (hsz σ12))  (wN σ12 2 0 3)).bind fun q13 =>
  (pR q13 l0 [1] 3 (some (hsz σ12))).bind fun σ15 =>
  (pI σ15 l0 [1] 6 (-1 : Int32)).bind fun σ16 =>
  some σ16
set_option maxHeartbeats 4000000 in
theorem sX1_init {γ : GP} (hγ : GOK γ) (l0 : Option Nat) (σ : Hp) (q : Hp) (h : X1_init l0 σ = some q) : Rn γ mX1_init yX1_init [va_rf l0] (σ, .inr none, q) := by
  refine J_m hγ ykX1_init rfl [(1, va_rf l0)] (cats_r cats_nil) (Nat.le_of_ble_eq_true rfl) ?_
  show J γ mX1_init _ σ 0 [(0, 1, va_rf l0)] []
  unfold X1_init at h
  refine J_aload_n (i := 0) 0 1 dX1_init_0 rfl rfl rfl ?_
  obtain ⟨b1, hb1, h⟩ := some_of_bind h
  refine J_oI hb1 q193 (Nat.le_of_ble_eq_true rfl) cs_nil (by decide) 4 dX1_init_1 rfl ?_
  refine J_aload_n (i := 0) 0 5 dX1_init_4 rfl rfl rfl ?_
  refine J_new (c9 := 31) (nsl := 3) rfl (by decide) (by decide +kernel) q194 q195 q132 8 dX1_init_5 rfl ?_
  refine J_dupr 9 dX1_init_8 rfl ?_
  obtain ⟨b3, hb3, h⟩ := some_of_bind h
  obtain ⟨q2, hq2, h⟩ := some_of_bind h
  refine J_cI 12 dX1_init_9 rfl ykJ2_init rfl (Or.inl q196) q197 rfl (Nat.le_of_ble_eq_true rfl) (cs_rf (cs_rf cs_nil)) (by decide) [] hb3 rfl rfl (sJ2_init hγ (some (hsz σ))  (wN σ 31 0 3) q2 hq2) ?_
  obtain ⟨σ4, hσ4, h⟩ := some_of_bind h
  refine J_pR rfl 15 dX1_init_12 rfl pk_z_238 hσ4 ?_
  refine J_aload_n (i := 0) 0 16 dX1_init_15 rfl rfl rfl ?_
  refine J_ic 17 dX1_init_16 rfl (4 : Int32) kic_4 ?_
  obtain ⟨σ5, hσ5, h⟩ := some_of_bind h
  refine J_newI 19 dX1_init_17 rfl hσ5 ?_
  refine J_dupr 20 dX1_init_19 rfl ?_
  refine J_ic 21 dX1_init_20 rfl (0 : Int32) kic_0 ?_
  refine J_ic 22 dX1_init_21 rfl (0 : Int32) kic_0 ?_
  obtain ⟨σ6, hσ6, h⟩ := some_of_bind h
  refine J_iast 23 dX1_init_22 rfl hσ6 ?_
  refine J_dupr 24 dX1_init_23 rfl ?_
  refine J_ic 25 dX1_init_24 rfl (1 : Int32) kic_1 ?_
  refine J_ic 26 dX1_init_25 rfl (1 : Int32) kic_1 ?_
  obtain ⟨σ7, hσ7, h⟩ := some_of_bind h
  refine J_iast 27 dX1_init_26 rfl hσ7 ?_
  refine J_dupr 28 dX1_init_27 rfl ?_
  refine J_ic 29 dX1_init_28 rfl (2 : Int32) kic_2 ?_
  refine J_ic 30 dX1_init_29 rfl (0 : Int32) kic_0 ?_
  obtain ⟨σ8, hσ8, h⟩ := some_of_bind h
  refine J_iast 31 dX1_init_30 rfl hσ8 ?_
  refine J_dupr 32 dX1_init_31 rfl ?_
  refine J_ic 33 dX1_init_32 rfl (3 : Int32) kic_3 ?_
  refine J_ic 34 dX1_init_33 rfl (0 : Int32) kic_0 ?_
  obtain ⟨σ9, hσ9, h⟩ := some_of_bind h
  refine J_iast 35 dX1_init_34 rfl hσ9 ?_
  obtain ⟨σ10, hσ10, h⟩ := some_of_bind h
  refine J_pR rfl 38 dX1_init_35 rfl pk_z_239 hσ10 ?_
  refine J_aload_n (i := 0) 0 39 dX1_init_38 rfl rfl rfl ?_
  refine J_bipush 41 dX1_init_39 rfl (6 : Int32) kbp_6 ?_
  refine J_ic 42 dX1_init_41 rfl (2 : Int32) kic_2 ?_
  obtain ⟨σ11, hσ11, h⟩ := some_of_bind h
  refine J_multiI q220 46 dX1_init_42 rfl hσ11 ?_
  obtain ⟨σ12, hσ12, h⟩ := some_of_bind h
  refine J_pR rfl 49 dX1_init_46 rfl pk_z_240 hσ12 ?_
  refine J_aload_n (i := 0) 0 50 dX1_init_49 rfl rfl rfl ?_
  refine J_new (c9 := 2) (nsl := 3) rfl (by decide) (by decide +kernel) q222 q223 q133 53 dX1_init_50 rfl ?_
  refine J_dupr 54 dX1_init_53 rfl ?_
  obtain ⟨b14, hb14, h⟩ := some_of_bind h
  obtain ⟨q13, hq13, h⟩ := some_of_bind h
  refine J_cI 57 dX1_init_54 rfl ykX2_init rfl (Or.inl q224) q225 rfl (Nat.le_of_ble_eq_true rfl) (cs_rf (cs_rf cs_nil)) (by decide) [] hb14 rfl rfl (sX2_init hγ (some (hsz σ12))  (wN σ12 2 0 3) q13 hq13) ?_
  obtain ⟨σ15, hσ15, h⟩ := some_of_bind h
  refine J_pR rfl 60 dX1_init_57 rfl pk_z_241 hσ15 ?_
  refine J_aload_n (i := 0) 0 61 dX1_init_60 rfl rfl rfl ?_
  refine J_ic 62 dX1_init_61 rfl (-1 : Int32) kic_m1 ?_
  obtain ⟨σ16, hσ16, h⟩ := some_of_bind h
  refine J_pI 65 dX1_init_62 rfl pk_z_242 hσ16 ?_
  exact J_vret rfl dX1_init_65 (retV h)
abbrev mX1_copy : MP := (cX1_copy, "MissCurves$Shop", 3, (Option.some (FieldType.object "MissCurves$Shop")), 5, "copy", [])
theorem ykX1_copy : YK yX1_copy mX1_copy 0 := ⟨q2162, q129, ⟨by decide, by decide⟩, by decide +kernel, Nat.le_of_ble_eq_true rfl, by decide, rfl, rfl⟩
theorem fk_z_243 : FOK "MissCurves$Shop" 24 [1] 2 isR := FOK.one (by decide) rfl (Nat.le_of_ble_eq_true rfl) (Or.inl ⟨_, q296, Or.inl rfl⟩) rfl
theorem fk_z_244 : FOK "MissCurves$Shop" 12 [1] 0 isR := FOK.one (by decide) rfl (Nat.le_of_ble_eq_true rfl) (Or.inl ⟨_, q292, Or.inl rfl⟩) rfl
theorem fk_z_245 : FOK "MissCurves$Shop" 18 [1] 1 isR := FOK.one (by decide) rfl (Nat.le_of_ble_eq_true rfl) (Or.inl ⟨_, q294, Or.inl rfl⟩) rfl
theorem fk_z_246 : FOK "MissCurves$Shop" 30 [1] 3 isR := FOK.one (by decide) rfl (Nat.le_of_ble_eq_true rfl) (Or.inl ⟨_, q298, Or.inl rfl⟩) rfl
theorem fk_z_247 : FOK "MissCurves$Shop" 53 [1] 4 isI := FOK.one (by decide) rfl (Nat.le_of_ble_eq_true rfl) (Or.inl ⟨_, q300, Or.inl rfl⟩) rfl
theorem pk_z_248 {nm9 : String} : POK "MissCurves$Shop" nm9 53 [1] 4 .int := POK.one (by decide) rfl (Nat.le_of_ble_eq_true rfl) (Or.inl ⟨_, q300, Or.inl rfl⟩) rfl (by decide +kernel) (Or.inl rfl)
theorem fk_z_249 : FOK "MissCurves$Shop" 56 [1] 5 isI := FOK.one (by decide) rfl (Nat.le_of_ble_eq_true rfl) (Or.inl ⟨_, q302, Or.inl rfl⟩) rfl
theorem pk_z_250 {nm9 : String} : POK "MissCurves$Shop" nm9 56 [1] 5 .int := POK.one (by decide) rfl (Nat.le_of_ble_eq_true rfl) (Or.inl ⟨_, q302, Or.inl rfl⟩) rfl (by decide +kernel) (Or.inl rfl)
theorem fk_z_251 : FOK "MissCurves$Shop" 34 [1] 6 isI := FOK.one (by decide) rfl (Nat.le_of_ble_eq_true rfl) (Or.inl ⟨_, q304, Or.inl rfl⟩) rfl
theorem pk_z_252 {nm9 : String} : POK "MissCurves$Shop" nm9 34 [1] 6 .int := POK.one (by decide) rfl (Nat.le_of_ble_eq_true rfl) (Or.inl ⟨_, q304, Or.inl rfl⟩) rfl (by decide +kernel) (Or.inl rfl)
def X1_copy_c40 (l0 : Option Nat) (l1 : Option Nat) (k70 : Hp → Option (Option Nat × Hp)) : Nat → Int32 → Hp → Option (Option Nat × Hp)
  | 0, _, _ => none
  | n + 1, l2, σ =>
    if (6 : Int32) ≤ l2 then
      k70  σ
    else
      (gR σ l0 [1] 2).bind fun v2 =>
      (aR 5 σ v2 l2).bind fun v3 =>
      (gR σ l1 [1] 2).bind fun v4 =>
      (aR 5 σ v4 l2).bind fun v5 =>
      (cpI 0 σ v3 (0 : Int32) v5 (0 : Int32) (2 : Int32)).bind fun σ6 =>
      X1_copy_c40 l0 l1 k70 n (l2 + (1 : Int32)) σ6
set_option maxHeartbeats 4000000 in
theorem jX1_copy_c40 {γ : GP} {σ0 : Hp} {q : (Option Nat × Hp)} (hγ : GOK γ) (l0 : Option Nat) (l1 : Option Nat) {k70 : Hp → Option (Option Nat × Hp)} (hk70 : ∀  (σ : Hp), k70  σ = some q → J γ mX1_copy (σ0, .inr (some (va_rf q.1)), q.2) σ 70 [(0, 1, va_rf l0), (1, 1, va_rf l1)] []) : ∀ (n : Nat) (l2 : Int32) (σ : Hp), X1_copy_c40 l0 l1 k70 n l2 σ = some q → J γ mX1_copy (σ0, .inr (some (va_rf q.1)), q.2) σ 40 [(0, 1, va_rf l0), (1, 1, va_rf l1), (2, 1, .int l2)] [] := by
  intro n
  induction n with
  | zero => intro l2 σ h; exact nomatch (show none = some q from h)
  | succ n ih =>
    intro l2 σ h
    rw [X1_copy_c40] at h
    refine J_iload_n (i := 2) 2 41 dX1_copy_40 rfl rfl rfl ?_
    refine J_bipush 43 dX1_copy_41 rfl (6 : Int32) kbp_6 ?_
    refine J_icmp_ge 70 46 dX1_copy_43 (by decide) rfl (fun c1 => ?_) (fun c1 => ?_)
    · rw [if_pos c1] at h
      refine J.pick [0, 1] rfl ?_
      exact hk70  σ h
    · rw [if_neg c1] at h
      refine J_aload_n (i := 0) 0 47 dX1_copy_46 rfl rfl rfl ?_
      obtain ⟨v2, hv2, h⟩ := some_of_bind h
      refine J_gR 50 dX1_copy_47 rfl fk_z_243 hv2 ?_
      refine J_iload_n (i := 2) 2 51 dX1_copy_50 rfl rfl rfl ?_
      obtain ⟨v3, hv3, h⟩ := some_of_bind h
      refine J_aald 5 (by decide) (by decide) rfl 52 dX1_copy_51 rfl hv3 ?_
      refine J_ic 53 dX1_copy_52 rfl (0 : Int32) kic_0 ?_
      refine J_aload_n (i := 1) 1 54 dX1_copy_53 rfl rfl rfl ?_
      obtain ⟨v4, hv4, h⟩ := some_of_bind h
      refine J_gR 57 dX1_copy_54 rfl fk_z_243 hv4 ?_
      refine J_iload_n (i := 2) 2 58 dX1_copy_57 rfl rfl rfl ?_
      obtain ⟨v5, hv5, h⟩ := some_of_bind h
      refine J_aald 5 (by decide) (by decide) rfl 59 dX1_copy_58 rfl hv5 ?_
      refine J_ic 60 dX1_copy_59 rfl (0 : Int32) kic_0 ?_
      refine J_ic 61 dX1_copy_60 rfl (2 : Int32) kic_2 ?_
      obtain ⟨σ6, hσ6, h⟩ := some_of_bind h
      refine J_cpI 0 (by decide) (by decide) rfl rfl q2180 (Nat.le_of_ble_eq_true rfl) cs_nil (by decide) 64 dX1_copy_61 rfl hσ6 ?_
      refine J_iinc (i := 2) (v := l2 + (1 : Int32)) 2 67 [(2, 1, .int (l2 + (1 : Int32))), (0, 1, va_rf l0), (1, 1, va_rf l1)] dX1_copy_64 rfl rfl (Nat.le_of_ble_eq_true rfl) (by rw [kic_1]) rfl ?_
      refine J_goto 40 dX1_copy_67 (by decide) ?_
      refine J.pick [1, 2, 0] rfl ?_
      exact ih (l2 + (1 : Int32)) σ6 h
def X1_copy (l0 : Option Nat) (σ : Hp) : Option (Option Nat × Hp) :=
  (some (hsz σ)).bind fun b2 =>
  (X1_init (some (hsz σ))  (wN σ 1 0 7)).bind fun q1 =>
  (gR q1 (some (hsz σ)) [1] 0).bind fun v3 =>
  (gR q1 l0 [1] 0).bind fun v4 =>
  (cT q1 v3 31).bind fun b6 =>
  (J2_addAll v3 v4 q1).bind fun q5 =>
  (gR q5.2 l0 [1] 1).bind fun v7 =>
  (gR q5.2 (some (hsz σ)) [1] 1).bind fun v8 =>
  (gR q5.2 l0 [1] 1).bind fun v9 =>
  (aN q5.2 v9).bind fun v10 =>
  (cpI 0 q5.2 v7 (0 : Int32) v8 (0 : Int32) v10).bind fun σ11 =>
  X1_copy_c40 l0 (some (hsz σ)) (fun τ12 =>
    (gR τ12 (some (hsz σ)) [1] 3).bind fun v13 =>
    (gR τ12 l0 [1] 3).bind fun v14 =>
    (cT τ12 v13 2).bind fun b16 =>
    (X2_as v13 v14 τ12).bind fun q15 =>
    (gI q15.2 l0 [1] 4).bind fun v17 =>
    (pI q15.2 (some (hsz σ)) [1] 4 v17).bind fun σ18 =>
    (gI σ18 l0 [1] 5).bind fun v19 =>
    (pI σ18 (some (hsz σ)) [1] 5 v19).bind fun σ20 =>
    (gI σ20 l0 [1] 6).bind fun v21 =>
    (pI σ20 (some (hsz σ)) [1] 6 v21).bind fun σ22 =>
    some ((some (hsz σ)), σ22)) FUEL (0 : Int32) σ11
set_option maxHeartbeats 4000000 in
theorem sX1_copy {γ : GP} (hγ : GOK γ) (l0 : Option Nat) (σ : Hp) (q : (Option Nat × Hp)) (h : X1_copy l0 σ = some q) : Rn γ mX1_copy yX1_copy [va_rf l0] (σ, .inr (some (va_rf q.1)), q.2) := by
  refine J_m hγ ykX1_copy rfl [(1, va_rf l0)] (cats_r cats_nil) (Nat.le_of_ble_eq_true rfl) ?_
  show J γ mX1_copy _ σ 0 [(0, 1, va_rf l0)] []
  unfold X1_copy at h
  refine J_new (c9 := 1) (nsl := 7) rfl (by decide) (by decide +kernel) q2163 q189 q129 3 dX1_copy_0 rfl ?_
  refine J_dupr 4 dX1_copy_3 rfl ?_
  obtain ⟨b2, hb2, h⟩ := some_of_bind h
  obtain ⟨q1, hq1, h⟩ := some_of_bind h
  refine J_cI 7 dX1_copy_4 rfl ykX1_init rfl (Or.inl q2164) q191 rfl (Nat.le_of_ble_eq_true rfl) (cs_rf cs_nil) (by decide) [] hb2 rfl rfl (sX1_init hγ (some (hsz σ))  (wN σ 1 0 7) q1 hq1) ?_
  refine J_astore_n (i := 1) 8 [(1, 1, va_rf (some (hsz σ))), (0, 1, va_rf l0)] dX1_copy_7 rfl rfl (Nat.le_of_ble_eq_true rfl) rfl ?_
  refine J_aload_n (i := 1) 0 9 dX1_copy_8 rfl rfl rfl ?_
  obtain ⟨v3, hv3, h⟩ := some_of_bind h
  refine J_gR 12 dX1_copy_9 rfl fk_z_244 hv3 ?_
  refine J_aload_n (i := 0) 1 13 dX1_copy_12 rfl rfl rfl ?_
  obtain ⟨v4, hv4, h⟩ := some_of_bind h
  refine J_gR 16 dX1_copy_13 rfl fk_z_244 hv4 ?_
  obtain ⟨b6, hb6, h⟩ := some_of_bind h
  obtain ⟨q5, hq5, h⟩ := some_of_bind h
  refine J_cVi 19 dX1_copy_16 rfl ykJ2_addAll (Or.inl q2165) q2166 q2167 (Nat.le_of_ble_eq_true rfl) cs_nil (by decide) [va_rf v4] hb6 (by decide) rfl rfl rfl (sJ2_addAll hγ v3 v4 q1 q5 hq5) ?_
  refine J_popi 20 dX1_copy_19 rfl ?_
  refine J_aload_n (i := 0) 1 21 dX1_copy_20 rfl rfl rfl ?_
  obtain ⟨v7, hv7, h⟩ := some_of_bind h
  refine J_gR 24 dX1_copy_21 rfl fk_z_245 hv7 ?_
  refine J_ic 25 dX1_copy_24 rfl (0 : Int32) kic_0 ?_
  refine J_aload_n (i := 1) 0 26 dX1_copy_25 rfl rfl rfl ?_
  obtain ⟨v8, hv8, h⟩ := some_of_bind h
  refine J_gR 29 dX1_copy_26 rfl fk_z_245 hv8 ?_
  refine J_ic 30 dX1_copy_29 rfl (0 : Int32) kic_0 ?_
  refine J_aload_n (i := 0) 1 31 dX1_copy_30 rfl rfl rfl ?_
  obtain ⟨v9, hv9, h⟩ := some_of_bind h
  refine J_gR 34 dX1_copy_31 rfl fk_z_245 hv9 ?_
  obtain ⟨v10, hv10, h⟩ := some_of_bind h
  refine J_alen 35 dX1_copy_34 rfl hv10 ?_
  obtain ⟨σ11, hσ11, h⟩ := some_of_bind h
  refine J_cpI 0 (by decide) (by decide) rfl rfl q2180 (Nat.le_of_ble_eq_true rfl) cs_nil (by decide) 38 dX1_copy_35 rfl hσ11 ?_
  refine J_ic 39 dX1_copy_38 rfl (0 : Int32) kic_0 ?_
  refine J_istore_n (i := 2) 40 [(2, 1, .int (0 : Int32)), (1, 1, va_rf (some (hsz σ))), (0, 1, va_rf l0)] dX1_copy_39 rfl rfl (Nat.le_of_ble_eq_true rfl) rfl ?_
  refine J.pick [2, 1, 0] rfl ?_
  refine jX1_copy_c40 hγ l0 (some (hsz σ)) (fun τ12 h => ?_) FUEL (0 : Int32) σ11 h
  · refine J_aload_n (i := 1) 1 71 dX1_copy_70 rfl rfl rfl ?_
    obtain ⟨v13, hv13, h⟩ := some_of_bind h
    refine J_gR 74 dX1_copy_71 rfl fk_z_246 hv13 ?_
    refine J_aload_n (i := 0) 0 75 dX1_copy_74 rfl rfl rfl ?_
    obtain ⟨v14, hv14, h⟩ := some_of_bind h
    refine J_gR 78 dX1_copy_75 rfl fk_z_246 hv14 ?_
    obtain ⟨b16, hb16, h⟩ := some_of_bind h
    obtain ⟨q15, hq15, h⟩ := some_of_bind h
    refine J_cVr 81 dX1_copy_78 rfl ykX2_as (Or.inl q2181) q1586 q1587 (Nat.le_of_ble_eq_true rfl) cs_nil (by decide) [va_rf v14] hb16 (by decide) rfl rfl rfl (sX2_as hγ v13 v14 τ12 q15 hq15) ?_
    refine J_popr 82 dX1_copy_81 rfl ?_
    refine J_aload_n (i := 1) 1 83 dX1_copy_82 rfl rfl rfl ?_
    refine J_aload_n (i := 0) 0 84 dX1_copy_83 rfl rfl rfl ?_
    obtain ⟨v17, hv17, h⟩ := some_of_bind h
    refine J_gI 87 dX1_copy_84 rfl fk_z_247 hv17 ?_
    obtain ⟨σ18, hσ18, h⟩ := some_of_bind h
    refine J_pI 90 dX1_copy_87 rfl pk_z_248 hσ18 ?_
    refine J_aload_n (i := 1) 1 91 dX1_copy_90 rfl rfl rfl ?_
    refine J_aload_n (i := 0) 0 92 dX1_copy_91 rfl rfl rfl ?_
    obtain ⟨v19, hv19, h⟩ := some_of_bind h
    refine J_gI 95 dX1_copy_92 rfl fk_z_249 hv19 ?_
    obtain ⟨σ20, hσ20, h⟩ := some_of_bind h
    refine J_pI 98 dX1_copy_95 rfl pk_z_250 hσ20 ?_
    refine J_aload_n (i := 1) 1 99 dX1_copy_98 rfl rfl rfl ?_
    refine J_aload_n (i := 0) 0 100 dX1_copy_99 rfl rfl rfl ?_
    obtain ⟨v21, hv21, h⟩ := some_of_bind h
    refine J_gI 103 dX1_copy_100 rfl fk_z_251 hv21 ?_
    obtain ⟨σ22, hσ22, h⟩ := some_of_bind h
    refine J_pI 106 dX1_copy_103 rfl pk_z_252 hσ22 ?_
    refine J_aload_n (i := 1) 1 107 dX1_copy_106 rfl rfl rfl ?_
    exact J_aret rfl (Or.inl ⟨_, rfl⟩) dX1_copy_107 (retR h)
abbrev mX0_settled : MP := (cX0_settled, "MissCurves", 2, (Option.some FieldType.int), 2, "settled", [])
theorem ykX0_settled : YK yX0_settled mX0_settled 1 := ⟨q767, q128, ⟨by decide, by decide⟩, by decide +kernel, Nat.le_of_ble_eq_true rfl, by decide, rfl, rfl⟩
theorem fk_z_253 : FOK "MissCurves" 33 [0] 2 isR := FOK.one (by decide) rfl (Nat.le_of_ble_eq_true rfl) (Or.inl ⟨_, q382, Or.inl rfl⟩) rfl
theorem pk_z_254 {nm9 : String} : POK "MissCurves" nm9 126 [4] 1 .int := POK.one (by decide) rfl (Nat.le_of_ble_eq_true rfl) (Or.inr ⟨_, q334⟩) rfl (by decide +kernel) (Or.inl rfl)
def X0_settled_c12  (l0 : Option Nat) (l1 : Int32)  (σ : Hp) : Option (Int32 × Hp) :=
  (cT σ l0 0).bind fun b2 =>
  (X0_tell l0 l1 σ).bind fun q1 =>
  some (q1.1, q1.2)
set_option maxHeartbeats 4000000 in
theorem jX0_settled_c12 {γ : GP} {σ0 : Hp} {q : (Int32 × Hp)} (hγ : GOK γ) (l0 : Option Nat) (l1 : Int32)   (σ : Hp) (h : X0_settled_c12 l0 l1 σ = some q) : J γ mX0_settled (σ0, .inr (some (.int q.1)), q.2) σ 12 [(0, 1, va_rf l0), (1, 1, .int l1)] [] := by
  unfold X0_settled_c12 at h
  refine J_aload_n (i := 0) 0 13 dX0_settled_12 rfl rfl rfl ?_
  refine J_iload_n (i := 1) 1 14 dX0_settled_13 rfl rfl rfl ?_
  obtain ⟨b2, hb2, h⟩ := some_of_bind h
  obtain ⟨q1, hq1, h⟩ := some_of_bind h
  refine J_cVi 17 dX0_settled_14 rfl ykX0_tell (Or.inl q630) q632 qs7 (Nat.le_of_ble_eq_true rfl) cs_nil (by decide) [.int l1] hb2 (by decide) rfl rfl rfl (sX0_tell hγ l0 l1 σ q1 hq1) ?_
  exact J_iret rfl dX0_settled_17 (retI h)
def X0_settled (l0 : Option Nat) (l1 : Int32) (σ : Hp) : Option (Int32 × Hp) :=
  if l1 < 0 then
    X0_settled_c12  l0 l1  σ
  else
    (gR σ l0 [0] 2).bind fun v2 =>
    (pI σ v2 [4] 1 (0 : Int32)).bind fun σ3 =>
    X0_settled_c12  l0 l1  σ3
set_option maxHeartbeats 4000000 in
theorem sX0_settled {γ : GP} (hγ : GOK γ) (l0 : Option Nat) (l1 : Int32) (σ : Hp) (q : (Int32 × Hp)) (h : X0_settled l0 l1 σ = some q) : Rn γ mX0_settled yX0_settled [va_rf l0, .int l1] (σ, .inr (some (.int q.1)), q.2) := by
  refine J_m hγ ykX0_settled rfl [(1, va_rf l0), (1, .int l1)] (cats_r (cats_i cats_nil)) (Nat.le_of_ble_eq_true rfl) ?_
  show J γ mX0_settled _ σ 0 [(0, 1, va_rf l0), (1, 1, .int l1)] []
  unfold X0_settled at h
  refine J_iload_n (i := 1) 1 1 dX0_settled_0 rfl rfl rfl ?_
  refine J_if_lt 12 4 dX0_settled_1 (by decide) rfl (fun c1 => ?_) (fun c1 => ?_)
  · rw [if_pos c1] at h
    exact jX0_settled_c12 hγ l0 l1  σ h
  · rw [if_neg c1] at h
    refine J_aload_n (i := 0) 0 5 dX0_settled_4 rfl rfl rfl ?_
    obtain ⟨v2, hv2, h⟩ := some_of_bind h
    refine J_gR 8 dX0_settled_5 rfl fk_z_253 hv2 ?_
    refine J_ic 9 dX0_settled_8 rfl (0 : Int32) kic_0 ?_
    obtain ⟨σ3, hσ3, h⟩ := some_of_bind h
    refine J_pI 12 dX0_settled_9 rfl pk_z_254 hσ3 ?_
    exact jX0_settled_c12 hγ l0 l1  σ3 h
abbrev mX0_back : MP := (cX0_back, "MissCurves", 2, (Option.some FieldType.int), 6, "back", [])
theorem ykX0_back : YK yX0_back mX0_back 1 := ⟨q2185, q128, ⟨by decide, by decide⟩, by decide +kernel, Nat.le_of_ble_eq_true rfl, by decide, rfl, rfl⟩
theorem fk_z_255 : FOK "MissCurves" 26 [0] 1 isR := FOK.one (by decide) rfl (Nat.le_of_ble_eq_true rfl) (Or.inl ⟨_, q381, Or.inl rfl⟩) rfl
theorem pk_z_256 {nm9 : String} : POK "MissCurves" nm9 22 [0] 0 (.object "MissCurves$Shop") := POK.one (by decide) rfl (Nat.le_of_ble_eq_true rfl) (Or.inl ⟨_, q380, Or.inl rfl⟩) rfl (by decide +kernel) (Or.inl rfl)
def X0_back (l0 : Option Nat) (l1 : Int32) (σ : Hp) : Option (Int32 × Hp) :=
  (X0_in l1.toInt64 (0 : Int64) (1 : Int64) σ).bind fun q1 =>
  if q1.1 = 0 then
    (cT q1.2 l0 0).bind fun b16 =>
    (X0_tell l0 (-1 : Int32) q1.2).bind fun q15 =>
    some (q15.1, q15.2)
  else
    (gR q1.2 l0 [0] 1).bind fun v3 =>
    (aR 9 q1.2 v3 l1).bind fun v4 =>
    if v4 = none then
      (cT q1.2 l0 0).bind fun b14 =>
      (X0_tell l0 (-2 : Int32) q1.2).bind fun q13 =>
      some (q13.1, q13.2)
    else
      (gR q1.2 l0 [0] 1).bind fun v6 =>
      (aR 9 q1.2 v6 l1).bind fun v7 =>
      (cT q1.2 v7 1).bind fun b9 =>
      (X1_copy v7  q1.2).bind fun q8 =>
      (pR q8.2 l0 [0] 0 q8.1).bind fun σ10 =>
      (cT σ10 l0 0).bind fun b12 =>
      (X0_settled l0 (0 : Int32) σ10).bind fun q11 =>
      some (q11.1, q11.2)
set_option maxHeartbeats 4000000 in
theorem sX0_back {γ : GP} (hγ : GOK γ) (l0 : Option Nat) (l1 : Int32) (σ : Hp) (q : (Int32 × Hp)) (h : X0_back l0 l1 σ = some q) : Rn γ mX0_back yX0_back [va_rf l0, .int l1] (σ, .inr (some (.int q.1)), q.2) := by
  refine J_m hγ ykX0_back rfl [(1, va_rf l0), (1, .int l1)] (cats_r (cats_i cats_nil)) (Nat.le_of_ble_eq_true rfl) ?_
  show J γ mX0_back _ σ 0 [(0, 1, va_rf l0), (1, 1, .int l1)] []
  unfold X0_back at h
  refine J_iload_n (i := 1) 1 1 dX0_back_0 rfl rfl rfl ?_
  refine J_i2l 2 dX0_back_1 rfl ?_
  refine J_lconst 3 dX0_back_2 rfl (0 : Int64) rfl ?_
  refine J_lconst 4 dX0_back_3 rfl (1 : Int64) rfl ?_
  obtain ⟨q1, hq1, h⟩ := some_of_bind h
  refine J_cSi 7 dX0_back_4 rfl ykX0_in (Or.inl q484) q485 (Nat.le_of_ble_eq_true rfl) cs_nil (by decide) [.long l1.toInt64, .long (0 : Int64), .long (1 : Int64)] rfl rfl (sX0_in hγ l1.toInt64 (0 : Int64) (1 : Int64) σ q1 hq1) ?_
  refine J_if_ne 16 10 dX0_back_7 (by decide) rfl (fun c2 => ?_) (fun c2 => ?_)
  · rw [if_neg c2] at h
    refine J_aload_n (i := 0) 0 17 dX0_back_16 rfl rfl rfl ?_
    obtain ⟨v3, hv3, h⟩ := some_of_bind h
    refine J_gR 20 dX0_back_17 rfl fk_z_255 hv3 ?_
    refine J_iload_n (i := 1) 1 21 dX0_back_20 rfl rfl rfl ?_
    obtain ⟨v4, hv4, h⟩ := some_of_bind h
    refine J_aald 9 (by decide) (by decide) rfl 22 dX0_back_21 rfl hv4 ?_
    refine J_ifnonnull 32 25 dX0_back_22 (by decide) rfl (fun c5 => ?_) (fun c5 => ?_)
    · rw [if_neg c5] at h
      refine J_aload_n (i := 0) 0 33 dX0_back_32 rfl rfl rfl ?_
      refine J_aload_n (i := 0) 0 34 dX0_back_33 rfl rfl rfl ?_
      obtain ⟨v6, hv6, h⟩ := some_of_bind h
      refine J_gR 37 dX0_back_34 rfl fk_z_255 hv6 ?_
      refine J_iload_n (i := 1) 1 38 dX0_back_37 rfl rfl rfl ?_
      obtain ⟨v7, hv7, h⟩ := some_of_bind h
      refine J_aald 9 (by decide) (by decide) rfl 39 dX0_back_38 rfl hv7 ?_
      obtain ⟨b9, hb9, h⟩ := some_of_bind h
      obtain ⟨q8, hq8, h⟩ := some_of_bind h
      refine J_cVr 42 dX0_back_39 rfl ykX1_copy (Or.inl q2159) q2160 q2161 (Nat.le_of_ble_eq_true rfl) (cs_rf cs_nil) (by decide) [] hb9 (by decide) rfl rfl rfl (sX1_copy hγ v7  q1.2 q8 hq8) ?_
      obtain ⟨σ10, hσ10, h⟩ := some_of_bind h
      refine J_pR rfl 45 dX0_back_42 rfl pk_z_256 hσ10 ?_
      refine J_aload_n (i := 0) 0 46 dX0_back_45 rfl rfl rfl ?_
      refine J_ic 47 dX0_back_46 rfl (0 : Int32) kic_0 ?_
      obtain ⟨b12, hb12, h⟩ := some_of_bind h
      obtain ⟨q11, hq11, h⟩ := some_of_bind h
      refine J_cVi 50 dX0_back_47 rfl ykX0_settled (Or.inl q764) q766 qs12 (Nat.le_of_ble_eq_true rfl) cs_nil (by decide) [.int (0 : Int32)] hb12 (by decide) rfl rfl rfl (sX0_settled hγ l0 (0 : Int32) σ10 q11 hq11) ?_
      exact J_iret rfl dX0_back_50 (retI h)
    · rw [if_pos c5] at h
      refine J_aload_n (i := 0) 0 26 dX0_back_25 rfl rfl rfl ?_
      refine J_bipush 28 dX0_back_26 rfl (-2 : Int32) kbp_m2 ?_
      obtain ⟨b14, hb14, h⟩ := some_of_bind h
      obtain ⟨q13, hq13, h⟩ := some_of_bind h
      refine J_cVi 31 dX0_back_28 rfl ykX0_tell (Or.inl q630) q632 qs7 (Nat.le_of_ble_eq_true rfl) cs_nil (by decide) [.int (-2 : Int32)] hb14 (by decide) rfl rfl rfl (sX0_tell hγ l0 (-2 : Int32) q1.2 q13 hq13) ?_
      exact J_iret rfl dX0_back_31 (retI h)
  · rw [if_pos c2] at h
    refine J_aload_n (i := 0) 0 11 dX0_back_10 rfl rfl rfl ?_
    refine J_ic 12 dX0_back_11 rfl (-1 : Int32) kic_m1 ?_
    obtain ⟨b16, hb16, h⟩ := some_of_bind h
    obtain ⟨q15, hq15, h⟩ := some_of_bind h
    refine J_cVi 15 dX0_back_12 rfl ykX0_tell (Or.inl q630) q632 qs7 (Nat.le_of_ble_eq_true rfl) cs_nil (by decide) [.int (-1 : Int32)] hb16 (by decide) rfl rfl rfl (sX0_tell hγ l0 (-1 : Int32) q1.2 q15 hq15) ?_
    exact J_iret rfl dX0_back_15 (retI h)
abbrev mX0_behindBlanks : MP := (cX0_behindBlanks, "MissCurves", 3, (Option.some FieldType.int), 0, "behindBlanks", [])
theorem ykX0_behindBlanks : YK yX0_behindBlanks mX0_behindBlanks 1 := ⟨q783, q128, ⟨by decide, by decide⟩, by decide +kernel, Nat.le_of_ble_eq_true rfl, by decide, rfl, rfl⟩
theorem fk_z_257 : FOK "MissCurves" 143 [0] 15 isI := FOK.one (by decide) rfl (Nat.le_of_ble_eq_true rfl) (Or.inl ⟨_, q399, Or.inl rfl⟩) rfl
theorem fk_z_258 : FOK "MissCurves" 82 [0] 14 isR := FOK.one (by decide) rfl (Nat.le_of_ble_eq_true rfl) (Or.inl ⟨_, q397, Or.inl rfl⟩) rfl
def X0_behindBlanks_c2 (l0 : Option Nat)  : Nat → Int32 → Hp → Option (Int32 × Hp)
  | 0, _, _ => none
  | n + 1, l2, σ =>
    (gI σ l0 [0] 15).bind fun v1 =>
    if v1 ≤ l2 then
      some (l2, σ)
    else
      (gR σ l0 [0] 14).bind fun v3 =>
      (aI 2 σ v3 l2).bind fun v4 =>
      if v4 = (32 : Int32) then
        X0_behindBlanks_c2 l0 n (l2 + (1 : Int32)) σ
      else
        some (l2, σ)
set_option maxHeartbeats 4000000 in
theorem jX0_behindBlanks_c2 {γ : GP} {σ0 : Hp} {q : (Int32 × Hp)} (hγ : GOK γ) (l0 : Option Nat)  : ∀ (n : Nat) (l2 : Int32) (σ : Hp), X0_behindBlanks_c2 l0 n l2 σ = some q → J γ mX0_behindBlanks (σ0, .inr (some (.int q.1)), q.2) σ 2 [(0, 1, va_rf l0), (2, 1, .int l2)] [] := by
  intro n
  induction n with
  | zero => intro l2 σ h; exact nomatch (show none = some q from h)
  | succ n ih =>
    intro l2 σ h
    rw [X0_behindBlanks_c2] at h
    refine J_iload_n (i := 2) 1 3 dX0_behindBlanks_2 rfl rfl rfl ?_
    refine J_aload_n (i := 0) 0 4 dX0_behindBlanks_3 rfl rfl rfl ?_
    obtain ⟨v1, hv1, h⟩ := some_of_bind h
    refine J_gI 7 dX0_behindBlanks_4 rfl fk_z_257 hv1 ?_
    refine J_icmp_ge 27 10 dX0_behindBlanks_7 (by decide) rfl (fun c2 => ?_) (fun c2 => ?_)
    · rw [if_pos c2] at h
      refine J_iload_n (i := 2) 1 28 dX0_behindBlanks_27 rfl rfl rfl ?_
      exact J_iret rfl dX0_behindBlanks_28 (retI h)
    · rw [if_neg c2] at h
      refine J_aload_n (i := 0) 0 11 dX0_behindBlanks_10 rfl rfl rfl ?_
      obtain ⟨v3, hv3, h⟩ := some_of_bind h
      refine J_gR 14 dX0_behindBlanks_11 rfl fk_z_258 hv3 ?_
      refine J_iload_n (i := 2) 1 15 dX0_behindBlanks_14 rfl rfl rfl ?_
      obtain ⟨v4, hv4, h⟩ := some_of_bind h
      refine J_bald 16 dX0_behindBlanks_15 rfl hv4 ?_
      refine J_bipush 18 dX0_behindBlanks_16 rfl (32 : Int32) kbp_32 ?_
      refine J_icmp_ne 27 21 dX0_behindBlanks_18 (by decide) rfl (fun c5 => ?_) (fun c5 => ?_)
      · rw [if_neg c5] at h
        refine J_iload_n (i := 2) 1 28 dX0_behindBlanks_27 rfl rfl rfl ?_
        exact J_iret rfl dX0_behindBlanks_28 (retI h)
      · rw [if_pos c5] at h
        refine J_iinc (i := 2) (v := l2 + (1 : Int32)) 1 24 [(2, 1, .int (l2 + (1 : Int32))), (0, 1, va_rf l0)] dX0_behindBlanks_21 rfl rfl (Nat.le_of_ble_eq_true rfl) (by rw [kic_1]) rfl ?_
        refine J_goto 2 dX0_behindBlanks_24 (by decide) ?_
        refine J.pick [1, 0] rfl ?_
        exact ih (l2 + (1 : Int32)) σ h
def X0_behindBlanks (l0 : Option Nat) (l1 : Int32) (σ : Hp) : Option (Int32 × Hp) :=
  X0_behindBlanks_c2 l0  FUEL l1 σ
set_option maxHeartbeats 4000000 in
theorem sX0_behindBlanks {γ : GP} (hγ : GOK γ) (l0 : Option Nat) (l1 : Int32) (σ : Hp) (q : (Int32 × Hp)) (h : X0_behindBlanks l0 l1 σ = some q) : Rn γ mX0_behindBlanks yX0_behindBlanks [va_rf l0, .int l1] (σ, .inr (some (.int q.1)), q.2) := by
  refine J_m hγ ykX0_behindBlanks rfl [(1, va_rf l0), (1, .int l1)] (cats_r (cats_i cats_nil)) (Nat.le_of_ble_eq_true rfl) ?_
  show J γ mX0_behindBlanks _ σ 0 [(0, 1, va_rf l0), (1, 1, .int l1)] []
  unfold X0_behindBlanks at h
  refine J_iload_n (i := 1) 1 1 dX0_behindBlanks_0 rfl rfl rfl ?_
  refine J_istore_n (i := 2) 2 [(2, 1, .int l1), (0, 1, va_rf l0), (1, 1, .int l1)] dX0_behindBlanks_1 rfl rfl (Nat.le_of_ble_eq_true rfl) rfl ?_
  refine J.pick [1, 0] rfl ?_
  refine jX0_behindBlanks_c2 hγ l0  FUEL l1 σ h
abbrev mX0_isTenant : MP := (cX0_isTenant, "MissCurves", 1, (Option.some FieldType.boolean), 1, "isTenant", [])
theorem ykX0_isTenant : YK yX0_isTenant mX0_isTenant 1 := ⟨q493, q128, ⟨by decide, by decide⟩, by decide +kernel, Nat.le_of_ble_eq_true rfl, by decide, rfl, rfl⟩
def X0_isTenant (l0 : Int32) (σ : Hp) : Option (Int32 × Hp) :=
  (X0_in l0.toInt64 (0 : Int64) (3 : Int64) σ).bind fun q1 =>
  rZ q1.1 q1.2
set_option maxHeartbeats 4000000 in
theorem sX0_isTenant {γ : GP} (hγ : GOK γ) (l0 : Int32) (σ : Hp) (q : (Int32 × Hp)) (h : X0_isTenant l0 σ = some q) : Rn γ mX0_isTenant yX0_isTenant [.int l0] (σ, .inr (some (.int q.1)), q.2) := by
  refine J_m hγ ykX0_isTenant rfl [(1, .int l0)] (cats_i cats_nil) (Nat.le_of_ble_eq_true rfl) ?_
  show J γ mX0_isTenant _ σ 0 [(0, 1, .int l0)] []
  unfold X0_isTenant at h
  refine J_iload_n (i := 0) 0 1 dX0_isTenant_0 rfl rfl rfl ?_
  refine J_i2l 2 dX0_isTenant_1 rfl ?_
  refine J_lconst 3 dX0_isTenant_2 rfl (0 : Int64) rfl ?_
  refine J_ldc2 (v := (3 : Int64)) 6 dX0_isTenant_3 rfl q494 ?_
  obtain ⟨q1, hq1, h⟩ := some_of_bind h
  refine J_cSi 9 dX0_isTenant_6 rfl ykX0_in (Or.inl q484) q485 (Nat.le_of_ble_eq_true rfl) cs_nil (by decide) [.long l0.toInt64, .long (0 : Int64), .long (3 : Int64)] rfl rfl (sX0_in hγ l0.toInt64 (0 : Int64) (3 : Int64) σ q1 hq1) ?_
  exact J_zret rfl (ite_some h).1 dX0_isTenant_9 (retZ h)
abbrev mX0_isBelow : MP := (cX0_isBelow, "MissCurves", 4, (Option.some FieldType.boolean), 0, "isBelow", [])
theorem ykX0_isBelow : YK yX0_isBelow mX0_isBelow 3 := ⟨q1659, q128, ⟨by decide, by decide⟩, by decide +kernel, Nat.le_of_ble_eq_true rfl, by decide, rfl, rfl⟩
theorem fk_z_259 : FOK "MissCurves" 86 [0] 16 isR := FOK.one (by decide) rfl (Nat.le_of_ble_eq_true rfl) (Or.inl ⟨_, q400, Or.inl rfl⟩) rfl
def X0_isBelow (l0 : Option Nat) (l1 : Int32) (l2 : Int32) (l3 : Int32) (σ : Hp) : Option (Int32 × Hp) :=
  (gR σ l0 [0] 16).bind fun v1 =>
  (aI 0 σ v1 l2).bind fun v2 =>
  (gR σ l0 [0] 16).bind fun v3 =>
  (aI 0 σ v3 l1).bind fun v4 =>
  (gR σ l0 [0] 16).bind fun v5 =>
  (aI 0 σ v5 l3).bind fun v6 =>
  if 0 ≤ (lg_cmp (v2.toInt64 * ((l3 - l1).toInt64)) ((v4.toInt64 * ((l3 - l2).toInt64)) + (v6.toInt64 * ((l2 - l1).toInt64)))) then
    some ((0 : Int32), σ)
  else
    some ((1 : Int32), σ)
set_option maxHeartbeats 4000000 in
theorem sX0_isBelow {γ : GP} (hγ : GOK γ) (l0 : Option Nat) (l1 : Int32) (l2 : Int32) (l3 : Int32) (σ : Hp) (q : (Int32 × Hp)) (h : X0_isBelow l0 l1 l2 l3 σ = some q) : Rn γ mX0_isBelow yX0_isBelow [va_rf l0, .int l1, .int l2, .int l3] (σ, .inr (some (.int q.1)), q.2) := by
  refine J_m hγ ykX0_isBelow rfl [(1, va_rf l0), (1, .int l1), (1, .int l2), (1, .int l3)] (cats_r (cats_i (cats_i (cats_i cats_nil)))) (Nat.le_of_ble_eq_true rfl) ?_
  show J γ mX0_isBelow _ σ 0 [(0, 1, va_rf l0), (1, 1, .int l1), (2, 1, .int l2), (3, 1, .int l3)] []
  unfold X0_isBelow at h
  refine J_aload_n (i := 0) 0 1 dX0_isBelow_0 rfl rfl rfl ?_
  obtain ⟨v1, hv1, h⟩ := some_of_bind h
  refine J_gR 4 dX0_isBelow_1 rfl fk_z_259 hv1 ?_
  refine J_iload_n (i := 2) 2 5 dX0_isBelow_4 rfl rfl rfl ?_
  obtain ⟨v2, hv2, h⟩ := some_of_bind h
  refine J_iald 6 dX0_isBelow_5 rfl hv2 ?_
  refine J_i2l 7 dX0_isBelow_6 rfl ?_
  refine J_iload_n (i := 3) 3 8 dX0_isBelow_7 rfl rfl rfl ?_
  refine J_iload_n (i := 1) 1 9 dX0_isBelow_8 rfl rfl rfl ?_
  refine J_isub 10 dX0_isBelow_9 rfl ?_
  refine J_i2l 11 dX0_isBelow_10 rfl ?_
  refine J_lmul 12 dX0_isBelow_11 rfl ?_
  refine J_aload_n (i := 0) 0 13 dX0_isBelow_12 rfl rfl rfl ?_
  obtain ⟨v3, hv3, h⟩ := some_of_bind h
  refine J_gR 16 dX0_isBelow_13 rfl fk_z_259 hv3 ?_
  refine J_iload_n (i := 1) 1 17 dX0_isBelow_16 rfl rfl rfl ?_
  obtain ⟨v4, hv4, h⟩ := some_of_bind h
  refine J_iald 18 dX0_isBelow_17 rfl hv4 ?_
  refine J_i2l 19 dX0_isBelow_18 rfl ?_
  refine J_iload_n (i := 3) 3 20 dX0_isBelow_19 rfl rfl rfl ?_
  refine J_iload_n (i := 2) 2 21 dX0_isBelow_20 rfl rfl rfl ?_
  refine J_isub 22 dX0_isBelow_21 rfl ?_
  refine J_i2l 23 dX0_isBelow_22 rfl ?_
  refine J_lmul 24 dX0_isBelow_23 rfl ?_
  refine J_aload_n (i := 0) 0 25 dX0_isBelow_24 rfl rfl rfl ?_
  obtain ⟨v5, hv5, h⟩ := some_of_bind h
  refine J_gR 28 dX0_isBelow_25 rfl fk_z_259 hv5 ?_
  refine J_iload_n (i := 3) 3 29 dX0_isBelow_28 rfl rfl rfl ?_
  obtain ⟨v6, hv6, h⟩ := some_of_bind h
  refine J_iald 30 dX0_isBelow_29 rfl hv6 ?_
  refine J_i2l 31 dX0_isBelow_30 rfl ?_
  refine J_iload_n (i := 2) 2 32 dX0_isBelow_31 rfl rfl rfl ?_
  refine J_iload_n (i := 1) 1 33 dX0_isBelow_32 rfl rfl rfl ?_
  refine J_isub 34 dX0_isBelow_33 rfl ?_
  refine J_i2l 35 dX0_isBelow_34 rfl ?_
  refine J_lmul 36 dX0_isBelow_35 rfl ?_
  refine J_ladd 37 dX0_isBelow_36 rfl ?_
  refine J_lcmp 38 dX0_isBelow_37 rfl ?_
  refine J_if_ge 45 41 dX0_isBelow_38 (by decide) rfl (fun c7 => ?_) (fun c7 => ?_)
  · rw [if_pos c7] at h
    refine J_ic 46 dX0_isBelow_45 rfl (0 : Int32) kic_0 ?_
    exact J_zret rfl (by decide) dX0_isBelow_46 (retI h)
  · rw [if_neg c7] at h
    refine J_ic 42 dX0_isBelow_41 rfl (1 : Int32) kic_1 ?_
    refine J_goto 46 dX0_isBelow_42 (by decide) ?_
    exact J_zret rfl (by decide) dX0_isBelow_46 (retI h)
abbrev mX0_layCurve : MP := (cX0_layCurve, "MissCurves", 3, (Option.none : Option FieldType), 2, "layCurve", [])
theorem ykX0_layCurve : YK yX0_layCurve mX0_layCurve 1 := ⟨q1655, q128, ⟨by decide, by decide⟩, by decide +kernel, Nat.le_of_ble_eq_true rfl, by decide, rfl, rfl⟩
theorem fk_z_260 : FOK "MissCurves" 373 [0] 18 isI := FOK.one (by decide) rfl (Nat.le_of_ble_eq_true rfl) (Or.inl ⟨_, q402, Or.inl rfl⟩) rfl
theorem fk_z_261 : FOK "MissCurves" 89 [0] 17 isR := FOK.one (by decide) rfl (Nat.le_of_ble_eq_true rfl) (Or.inl ⟨_, q401, Or.inl rfl⟩) rfl
theorem pk_z_262 {nm9 : String} : POK "MissCurves" nm9 373 [0] 18 .int := POK.one (by decide) rfl (Nat.le_of_ble_eq_true rfl) (Or.inl ⟨_, q402, Or.inl rfl⟩) rfl (by decide +kernel) (Or.inl rfl)
def X0_layCurve_c2 (l0 : Option Nat) (l1 : Int32) (k29 : Hp → Option Hp) : Nat → Int32 → Hp → Option Hp
  | 0, _, _ => none
  | n + 1, l2, σ =>
    if (24 : Int32) < l2 then
      k29  σ
    else
      (gR σ l0 [0] 16).bind fun v2 =>
      (cT σ l0 0).bind fun b4 =>
      (X0_book l0 l1 σ).bind fun q3 =>
      (cT q3.2 q3.1 3).bind fun b6 =>
      (X3_misses q3.1 l2 q3.2).bind fun q5 =>
      (sI 0 q5.2 v2 l2 q5.1).bind fun σ7 =>
      X0_layCurve_c2 l0 l1 k29 n (l2 + (1 : Int32)) σ7
set_option maxHeartbeats 4000000 in
theorem jX0_layCurve_c2 {γ : GP} {σ0 : Hp} {q : Hp} (hγ : GOK γ) (l0 : Option Nat) (l1 : Int32) {k29 : Hp → Option Hp} (hk29 : ∀  (σ : Hp), k29  σ = some q → J γ mX0_layCurve (σ0, .inr none, q) σ 29 [(0, 1, va_rf l0)] []) : ∀ (n : Nat) (l2 : Int32) (σ : Hp), X0_layCurve_c2 l0 l1 k29 n l2 σ = some q → J γ mX0_layCurve (σ0, .inr none, q) σ 2 [(0, 1, va_rf l0), (1, 1, .int l1), (2, 1, .int l2)] [] := by
  intro n
  induction n with
  | zero => intro l2 σ h; exact nomatch (show none = some q from h)
  | succ n ih =>
    intro l2 σ h
    rw [X0_layCurve_c2] at h
    refine J_iload_n (i := 2) 2 3 dX0_layCurve_2 rfl rfl rfl ?_
    refine J_bipush 5 dX0_layCurve_3 rfl (24 : Int32) kbp_24 ?_
    refine J_icmp_gt 29 8 dX0_layCurve_5 (by decide) rfl (fun c1 => ?_) (fun c1 => ?_)
    · rw [if_pos c1] at h
      refine J.pick [0] rfl ?_
      exact hk29  σ h
    · rw [if_neg c1] at h
      refine J_aload_n (i := 0) 0 9 dX0_layCurve_8 rfl rfl rfl ?_
      obtain ⟨v2, hv2, h⟩ := some_of_bind h
      refine J_gR 12 dX0_layCurve_9 rfl fk_z_259 hv2 ?_
      refine J_iload_n (i := 2) 2 13 dX0_layCurve_12 rfl rfl rfl ?_
      refine J_aload_n (i := 0) 0 14 dX0_layCurve_13 rfl rfl rfl ?_
      refine J_iload_n (i := 1) 1 15 dX0_layCurve_14 rfl rfl rfl ?_
      obtain ⟨b4, hb4, h⟩ := some_of_bind h
      obtain ⟨q3, hq3, h⟩ := some_of_bind h
      refine J_cVr 18 dX0_layCurve_15 rfl ykX0_book (Or.inl q495) q497 qs1 (Nat.le_of_ble_eq_true rfl) (cs_int (cs_rf cs_nil)) (by decide) [.int l1] hb4 (by decide) rfl rfl rfl (sX0_book hγ l0 l1 σ q3 hq3) ?_
      refine J_iload_n (i := 2) 2 19 dX0_layCurve_18 rfl rfl rfl ?_
      obtain ⟨b6, hb6, h⟩ := some_of_bind h
      obtain ⟨q5, hq5, h⟩ := some_of_bind h
      refine J_cVi 22 dX0_layCurve_19 rfl ykX3_misses (Or.inl q1643) q1644 q1645 (Nat.le_of_ble_eq_true rfl) (cs_int (cs_rf cs_nil)) (by decide) [.int l2] hb6 (by decide) rfl rfl rfl (sX3_misses hγ q3.1 l2 q3.2 q5 hq5) ?_
      obtain ⟨σ7, hσ7, h⟩ := some_of_bind h
      refine J_iast 23 dX0_layCurve_22 rfl hσ7 ?_
      refine J_iinc (i := 2) (v := l2 + (1 : Int32)) 2 26 [(2, 1, .int (l2 + (1 : Int32))), (0, 1, va_rf l0), (1, 1, .int l1)] dX0_layCurve_23 rfl rfl (Nat.le_of_ble_eq_true rfl) (by rw [kic_1]) rfl ?_
      refine J_goto 2 dX0_layCurve_26 (by decide) ?_
      refine J.pick [1, 2, 0] rfl ?_
      exact ih (l2 + (1 : Int32)) σ7 h
def X0_layCurve_c42 (l0 : Option Nat) (l2 : Int32) (k93 : Hp → Option Hp) : Nat → Hp → Option Hp
  | 0, _ => none
  | n + 1, σ =>
    (gI σ l0 [0] 18).bind fun v1 =>
    if v1 ≤ (1 : Int32) then
      k93  σ
    else
      (gR σ l0 [0] 17).bind fun v3 =>
      (gI σ l0 [0] 18).bind fun v4 =>
      (aI 0 σ v3 (v4 - (2 : Int32))).bind fun v5 =>
      (gR σ l0 [0] 17).bind fun v6 =>
      (gI σ l0 [0] 18).bind fun v7 =>
      (aI 0 σ v6 (v7 - (1 : Int32))).bind fun v8 =>
      (cT σ l0 0).bind fun b10 =>
      (X0_isBelow l0 v5 v8 l2 σ).bind fun q9 =>
      if q9.1 = 0 then
        (gI q9.2 l0 [0] 18).bind fun v12 =>
        (pI q9.2 l0 [0] 18 (v12 - (1 : Int32))).bind fun σ13 =>
        X0_layCurve_c42 l0 l2 k93 n  σ13
      else
        k93  q9.2
set_option maxHeartbeats 4000000 in
theorem jX0_layCurve_c42 {γ : GP} {σ0 : Hp} {q : Hp} (hγ : GOK γ) (l0 : Option Nat) (l2 : Int32) {k93 : Hp → Option Hp} (hk93 : ∀  (σ : Hp), k93  σ = some q → J γ mX0_layCurve (σ0, .inr none, q) σ 93 [(0, 1, va_rf l0), (2, 1, .int l2)] []) : ∀ (n : Nat)  (σ : Hp), X0_layCurve_c42 l0 l2 k93 n  σ = some q → J γ mX0_layCurve (σ0, .inr none, q) σ 42 [(0, 1, va_rf l0), (2, 1, .int l2)] [] := by
  intro n
  induction n with
  | zero => intro  σ h; exact nomatch (show none = some q from h)
  | succ n ih =>
    intro  σ h
    rw [X0_layCurve_c42] at h
    refine J_aload_n (i := 0) 0 43 dX0_layCurve_42 rfl rfl rfl ?_
    obtain ⟨v1, hv1, h⟩ := some_of_bind h
    refine J_gI 46 dX0_layCurve_43 rfl fk_z_260 hv1 ?_
    refine J_ic 47 dX0_layCurve_46 rfl (1 : Int32) kic_1 ?_
    refine J_icmp_le 93 50 dX0_layCurve_47 (by decide) rfl (fun c2 => ?_) (fun c2 => ?_)
    · rw [if_pos c2] at h
      exact hk93  σ h
    · rw [if_neg c2] at h
      refine J_aload_n (i := 0) 0 51 dX0_layCurve_50 rfl rfl rfl ?_
      refine J_aload_n (i := 0) 0 52 dX0_layCurve_51 rfl rfl rfl ?_
      obtain ⟨v3, hv3, h⟩ := some_of_bind h
      refine J_gR 55 dX0_layCurve_52 rfl fk_z_261 hv3 ?_
      refine J_aload_n (i := 0) 0 56 dX0_layCurve_55 rfl rfl rfl ?_
      obtain ⟨v4, hv4, h⟩ := some_of_bind h
      refine J_gI 59 dX0_layCurve_56 rfl fk_z_260 hv4 ?_
      refine J_ic 60 dX0_layCurve_59 rfl (2 : Int32) kic_2 ?_
      refine J_isub 61 dX0_layCurve_60 rfl ?_
      obtain ⟨v5, hv5, h⟩ := some_of_bind h
      refine J_iald 62 dX0_layCurve_61 rfl hv5 ?_
      refine J_aload_n (i := 0) 0 63 dX0_layCurve_62 rfl rfl rfl ?_
      obtain ⟨v6, hv6, h⟩ := some_of_bind h
      refine J_gR 66 dX0_layCurve_63 rfl fk_z_261 hv6 ?_
      refine J_aload_n (i := 0) 0 67 dX0_layCurve_66 rfl rfl rfl ?_
      obtain ⟨v7, hv7, h⟩ := some_of_bind h
      refine J_gI 70 dX0_layCurve_67 rfl fk_z_260 hv7 ?_
      refine J_ic 71 dX0_layCurve_70 rfl (1 : Int32) kic_1 ?_
      refine J_isub 72 dX0_layCurve_71 rfl ?_
      obtain ⟨v8, hv8, h⟩ := some_of_bind h
      refine J_iald 73 dX0_layCurve_72 rfl hv8 ?_
      refine J_iload_n (i := 2) 1 74 dX0_layCurve_73 rfl rfl rfl ?_
      obtain ⟨b10, hb10, h⟩ := some_of_bind h
      obtain ⟨q9, hq9, h⟩ := some_of_bind h
      refine J_cVi 77 dX0_layCurve_74 rfl ykX0_isBelow (Or.inl q1656) q1658 qs28 (Nat.le_of_ble_eq_true rfl) cs_nil (by decide) [.int v5, .int v8, .int l2] hb10 (by decide) rfl rfl rfl (sX0_isBelow hγ l0 v5 v8 l2 σ q9 hq9) ?_
      refine J_if_ne 93 80 dX0_layCurve_77 (by decide) rfl (fun c11 => ?_) (fun c11 => ?_)
      · rw [if_neg c11] at h
        exact hk93  q9.2 h
      · rw [if_pos c11] at h
        refine J_aload_n (i := 0) 0 81 dX0_layCurve_80 rfl rfl rfl ?_
        refine J_dupr 82 dX0_layCurve_81 rfl ?_
        obtain ⟨v12, hv12, h⟩ := some_of_bind h
        refine J_gI 85 dX0_layCurve_82 rfl fk_z_260 hv12 ?_
        refine J_ic 86 dX0_layCurve_85 rfl (1 : Int32) kic_1 ?_
        refine J_isub 87 dX0_layCurve_86 rfl ?_
        obtain ⟨σ13, hσ13, h⟩ := some_of_bind h
        refine J_pI 90 dX0_layCurve_87 rfl pk_z_262 hσ13 ?_
        refine J_goto 42 dX0_layCurve_90 (by decide) ?_
        exact ih  σ13 h
def X0_layCurve_c93 (k36 : Int32 → Hp → Option Hp) (l0 : Option Nat) (l2 : Int32)  (σ : Hp) : Option Hp :=
  (gR σ l0 [0] 17).bind fun v1 =>
  (gI σ l0 [0] 18).bind fun v2 =>
  (pI σ l0 [0] 18 (v2 + (1 : Int32))).bind fun σ3 =>
  (sI 0 σ3 v1 v2 l2).bind fun σ4 =>
  k36 (l2 + (1 : Int32)) σ4
set_option maxHeartbeats 4000000 in
theorem jX0_layCurve_c93 {γ : GP} {σ0 : Hp} {q : Hp} (hγ : GOK γ) (l0 : Option Nat) (l2 : Int32) {k36 : Int32 → Hp → Option Hp} (hk36 : ∀ (l2 : Int32) (σ : Hp), k36 l2 σ = some q → J γ mX0_layCurve (σ0, .inr none, q) σ 36 [(0, 1, va_rf l0), (2, 1, .int l2)] [])  (σ : Hp) (h : X0_layCurve_c93 k36 l0 l2 σ = some q) : J γ mX0_layCurve (σ0, .inr none, q) σ 93 [(0, 1, va_rf l0), (2, 1, .int l2)] [] := by
  unfold X0_layCurve_c93 at h
  refine J_aload_n (i := 0) 0 94 dX0_layCurve_93 rfl rfl rfl ?_
  obtain ⟨v1, hv1, h⟩ := some_of_bind h
  refine J_gR 97 dX0_layCurve_94 rfl fk_z_261 hv1 ?_
  refine J_aload_n (i := 0) 0 98 dX0_layCurve_97 rfl rfl rfl ?_
  refine J_dupr 99 dX0_layCurve_98 rfl ?_
  obtain ⟨v2, hv2, h⟩ := some_of_bind h
  refine J_gI 102 dX0_layCurve_99 rfl fk_z_260 hv2 ?_
  refine J_dup_x1ir 103 dX0_layCurve_102 rfl ?_
  refine J_ic 104 dX0_layCurve_103 rfl (1 : Int32) kic_1 ?_
  refine J_iadd 105 dX0_layCurve_104 rfl ?_
  obtain ⟨σ3, hσ3, h⟩ := some_of_bind h
  refine J_pI 108 dX0_layCurve_105 rfl pk_z_262 hσ3 ?_
  refine J_iload_n (i := 2) 1 109 dX0_layCurve_108 rfl rfl rfl ?_
  obtain ⟨σ4, hσ4, h⟩ := some_of_bind h
  refine J_iast 110 dX0_layCurve_109 rfl hσ4 ?_
  refine J_iinc (i := 2) (v := l2 + (1 : Int32)) 1 113 [(2, 1, .int (l2 + (1 : Int32))), (0, 1, va_rf l0)] dX0_layCurve_110 rfl rfl (Nat.le_of_ble_eq_true rfl) (by rw [kic_1]) rfl ?_
  refine J_goto 36 dX0_layCurve_113 (by decide) ?_
  refine J.pick [1, 0] rfl ?_
  exact hk36 (l2 + (1 : Int32)) σ4 h
def X0_layCurve_c36 (l0 : Option Nat)  : Nat → Int32 → Hp → Option Hp
  | 0, _, _ => none
  | n + 1, l2, σ =>
    if (24 : Int32) < l2 then
      some σ
    else
      X0_layCurve_c42 l0 l2 (fun τ2 =>
        X0_layCurve_c93 (X0_layCurve_c36 l0 n) l0 l2  τ2) FUEL  σ
set_option maxHeartbeats 4000000 in
theorem jX0_layCurve_c36 {γ : GP} {σ0 : Hp} {q : Hp} (hγ : GOK γ) (l0 : Option Nat)  : ∀ (n : Nat) (l2 : Int32) (σ : Hp), X0_layCurve_c36 l0 n l2 σ = some q → J γ mX0_layCurve (σ0, .inr none, q) σ 36 [(0, 1, va_rf l0), (2, 1, .int l2)] [] := by
  intro n
  induction n with
  | zero => intro l2 σ h; exact nomatch (show none = some q from h)
  | succ n ih =>
    intro l2 σ h
    rw [X0_layCurve_c36] at h
    refine J_iload_n (i := 2) 1 37 dX0_layCurve_36 rfl rfl rfl ?_
    refine J_bipush 39 dX0_layCurve_37 rfl (24 : Int32) kbp_24 ?_
    refine J_icmp_gt 116 42 dX0_layCurve_39 (by decide) rfl (fun c1 => ?_) (fun c1 => ?_)
    · rw [if_pos c1] at h
      exact J_vret rfl dX0_layCurve_116 (retV h)
    · rw [if_neg c1] at h
      refine jX0_layCurve_c42 hγ l0 l2 (fun τ2 h => ?_) FUEL  σ h
      · exact jX0_layCurve_c93 hγ l0 l2 ih  τ2 h
def X0_layCurve (l0 : Option Nat) (l1 : Int32) (σ : Hp) : Option Hp :=
  X0_layCurve_c2 l0 l1 (fun τ1 =>
    (pI τ1 l0 [0] 18 (0 : Int32)).bind fun σ2 =>
    X0_layCurve_c36 l0  FUEL (0 : Int32) σ2) FUEL (0 : Int32) σ
set_option maxHeartbeats 4000000 in
theorem sX0_layCurve {γ : GP} (hγ : GOK γ) (l0 : Option Nat) (l1 : Int32) (σ : Hp) (q : Hp) (h : X0_layCurve l0 l1 σ = some q) : Rn γ mX0_layCurve yX0_layCurve [va_rf l0, .int l1] (σ, .inr none, q) := by
  refine J_m hγ ykX0_layCurve rfl [(1, va_rf l0), (1, .int l1)] (cats_r (cats_i cats_nil)) (Nat.le_of_ble_eq_true rfl) ?_
  show J γ mX0_layCurve _ σ 0 [(0, 1, va_rf l0), (1, 1, .int l1)] []
  unfold X0_layCurve at h
  refine J_ic 1 dX0_layCurve_0 rfl (0 : Int32) kic_0 ?_
  refine J_istore_n (i := 2) 2 [(2, 1, .int (0 : Int32)), (0, 1, va_rf l0), (1, 1, .int l1)] dX0_layCurve_1 rfl rfl (Nat.le_of_ble_eq_true rfl) rfl ?_
  refine J.pick [1, 2, 0] rfl ?_
  refine jX0_layCurve_c2 hγ l0 l1 (fun τ1 h => ?_) FUEL (0 : Int32) σ h
  · refine J_aload_n (i := 0) 0 30 dX0_layCurve_29 rfl rfl rfl ?_
    refine J_ic 31 dX0_layCurve_30 rfl (0 : Int32) kic_0 ?_
    obtain ⟨σ2, hσ2, h⟩ := some_of_bind h
    refine J_pI 34 dX0_layCurve_31 rfl pk_z_262 hσ2 ?_
    refine J_ic 35 dX0_layCurve_34 rfl (0 : Int32) kic_0 ?_
    refine J_istore_n (i := 2) 36 [(2, 1, .int (0 : Int32)), (0, 1, va_rf l0)] dX0_layCurve_35 rfl rfl (Nat.le_of_ble_eq_true rfl) rfl ?_
    refine J.pick [1, 0] rfl ?_
    refine jX0_layCurve_c36 hγ l0  FUEL (0 : Int32) σ2 h
abbrev mX0_bend : MP := (cX0_bend, "MissCurves", 3, (Option.some FieldType.int), 3, "bend", [])
theorem ykX0_bend : YK yX0_bend mX0_bend 2 := ⟨q1668, q128, ⟨by decide, by decide⟩, by decide +kernel, Nat.le_of_ble_eq_true rfl, by decide, rfl, rfl⟩
def X0_bend (l0 : Option Nat) (l1 : Int32) (l2 : Int32) (σ : Hp) : Option (Int32 × Hp) :=
  (X0_isTenant l1 σ).bind fun q1 =>
  if q1.1 = 0 then
    some ((-1 : Int32), q1.2)
  else
    if (-1 : Int32) ≤ l2 then
      (cT q1.2 l0 0).bind fun b5 =>
      (X0_layCurve l0 l1 q1.2).bind fun q4 =>
      if l2 = (-1 : Int32) then
        (gI q4 l0 [0] 18).bind fun v11 =>
        some (v11, q4)
      else
        (gI q4 l0 [0] 18).bind fun v7 =>
        if v7 ≤ l2 then
          some ((-1 : Int32), q4)
        else
          (gR q4 l0 [0] 17).bind fun v9 =>
          (aI 0 q4 v9 l2).bind fun v10 =>
          some (v10, q4)
    else
      some ((-1 : Int32), q1.2)
set_option maxHeartbeats 4000000 in
theorem sX0_bend {γ : GP} (hγ : GOK γ) (l0 : Option Nat) (l1 : Int32) (l2 : Int32) (σ : Hp) (q : (Int32 × Hp)) (h : X0_bend l0 l1 l2 σ = some q) : Rn γ mX0_bend yX0_bend [va_rf l0, .int l1, .int l2] (σ, .inr (some (.int q.1)), q.2) := by
  refine J_m hγ ykX0_bend rfl [(1, va_rf l0), (1, .int l1), (1, .int l2)] (cats_r (cats_i (cats_i cats_nil))) (Nat.le_of_ble_eq_true rfl) ?_
  show J γ mX0_bend _ σ 0 [(0, 1, va_rf l0), (1, 1, .int l1), (2, 1, .int l2)] []
  unfold X0_bend at h
  refine J_iload_n (i := 1) 1 1 dX0_bend_0 rfl rfl rfl ?_
  obtain ⟨q1, hq1, h⟩ := some_of_bind h
  refine J_cSi 4 dX0_bend_1 rfl ykX0_isTenant (Or.inl q491) q492 (Nat.le_of_ble_eq_true rfl) cs_nil (by decide) [.int l1] rfl rfl (sX0_isTenant hγ l1 σ q1 hq1) ?_
  refine J_if_eq 12 7 dX0_bend_4 (by decide) rfl (fun c2 => ?_) (fun c2 => ?_)
  · rw [if_pos c2] at h
    refine J_ic 13 dX0_bend_12 rfl (-1 : Int32) kic_m1 ?_
    exact J_iret rfl dX0_bend_13 (retI h)
  · rw [if_neg c2] at h
    refine J_iload_n (i := 2) 2 8 dX0_bend_7 rfl rfl rfl ?_
    refine J_ic 9 dX0_bend_8 rfl (-1 : Int32) kic_m1 ?_
    refine J_icmp_ge 14 12 dX0_bend_9 (by decide) rfl (fun c3 => ?_) (fun c3 => ?_)
    · rw [if_pos c3] at h
      refine J_aload_n (i := 0) 0 15 dX0_bend_14 rfl rfl rfl ?_
      refine J_iload_n (i := 1) 1 16 dX0_bend_15 rfl rfl rfl ?_
      obtain ⟨b5, hb5, h⟩ := some_of_bind h
      obtain ⟨q4, hq4, h⟩ := some_of_bind h
      refine J_cVv 19 dX0_bend_16 rfl ykX0_layCurve (Or.inl q1652) q1654 qs27 (Nat.le_of_ble_eq_true rfl) cs_nil (by decide) [.int l1] hb5 (by decide) rfl rfl rfl (sX0_layCurve hγ l0 l1 q1.2 q4 hq4) ?_
      refine J_iload_n (i := 2) 2 20 dX0_bend_19 rfl rfl rfl ?_
      refine J_ic 21 dX0_bend_20 rfl (-1 : Int32) kic_m1 ?_
      refine J_icmp_ne 31 24 dX0_bend_21 (by decide) rfl (fun c6 => ?_) (fun c6 => ?_)
      · rw [if_neg c6] at h
        refine J_iload_n (i := 2) 2 32 dX0_bend_31 rfl rfl rfl ?_
        refine J_aload_n (i := 0) 0 33 dX0_bend_32 rfl rfl rfl ?_
        obtain ⟨v7, hv7, h⟩ := some_of_bind h
        refine J_gI 36 dX0_bend_33 rfl fk_z_260 hv7 ?_
        refine J_icmp_ge 48 39 dX0_bend_36 (by decide) rfl (fun c8 => ?_) (fun c8 => ?_)
        · rw [if_pos c8] at h
          refine J_ic 49 dX0_bend_48 rfl (-1 : Int32) kic_m1 ?_
          exact J_iret rfl dX0_bend_49 (retI h)
        · rw [if_neg c8] at h
          refine J_aload_n (i := 0) 0 40 dX0_bend_39 rfl rfl rfl ?_
          obtain ⟨v9, hv9, h⟩ := some_of_bind h
          refine J_gR 43 dX0_bend_40 rfl fk_z_261 hv9 ?_
          refine J_iload_n (i := 2) 2 44 dX0_bend_43 rfl rfl rfl ?_
          obtain ⟨v10, hv10, h⟩ := some_of_bind h
          refine J_iald 45 dX0_bend_44 rfl hv10 ?_
          refine J_goto 49 dX0_bend_45 (by decide) ?_
          exact J_iret rfl dX0_bend_49 (retI h)
      · rw [if_pos c6] at h
        refine J_aload_n (i := 0) 0 25 dX0_bend_24 rfl rfl rfl ?_
        obtain ⟨v11, hv11, h⟩ := some_of_bind h
        refine J_gI 28 dX0_bend_25 rfl fk_z_260 hv11 ?_
        refine J_goto 49 dX0_bend_28 (by decide) ?_
        exact J_iret rfl dX0_bend_49 (retI h)
    · rw [if_neg c3] at h
      refine J_ic 13 dX0_bend_12 rfl (-1 : Int32) kic_m1 ?_
      exact J_iret rfl dX0_bend_13 (retI h)
abbrev mX0_bendOf : MP := (cX0_bendOf, "MissCurves", 3, (Option.some FieldType.int), 0, "bendOf", [])
theorem ykX0_bendOf : YK yX0_bendOf mX0_bendOf 1 := ⟨q1663, q128, ⟨by decide, by decide⟩, by decide +kernel, Nat.le_of_ble_eq_true rfl, by decide, rfl, rfl⟩
def X0_bendOf_c2 (l0 : Option Nat) (l1 : Int32)  : Nat → Int32 → Hp → Option (Int32 × Hp)
  | 0, _, _ => none
  | n + 1, l2, σ =>
    (gI σ l0 [0] 18).bind fun v1 =>
    if v1 ≤ (l2 + (2 : Int32)) then
      some (l2, σ)
    else
      (gR σ l0 [0] 17).bind fun v3 =>
      (aI 0 σ v3 (l2 + (1 : Int32))).bind fun v4 =>
      if l1 < v4 then
        some (l2, σ)
      else
        X0_bendOf_c2 l0 l1 n (l2 + (1 : Int32)) σ
set_option maxHeartbeats 4000000 in
theorem jX0_bendOf_c2 {γ : GP} {σ0 : Hp} {q : (Int32 × Hp)} (hγ : GOK γ) (l0 : Option Nat) (l1 : Int32)  : ∀ (n : Nat) (l2 : Int32) (σ : Hp), X0_bendOf_c2 l0 l1 n l2 σ = some q → J γ mX0_bendOf (σ0, .inr (some (.int q.1)), q.2) σ 2 [(0, 1, va_rf l0), (1, 1, .int l1), (2, 1, .int l2)] [] := by
  intro n
  induction n with
  | zero => intro l2 σ h; exact nomatch (show none = some q from h)
  | succ n ih =>
    intro l2 σ h
    rw [X0_bendOf_c2] at h
    refine J_iload_n (i := 2) 2 3 dX0_bendOf_2 rfl rfl rfl ?_
    refine J_ic 4 dX0_bendOf_3 rfl (2 : Int32) kic_2 ?_
    refine J_iadd 5 dX0_bendOf_4 rfl ?_
    refine J_aload_n (i := 0) 0 6 dX0_bendOf_5 rfl rfl rfl ?_
    obtain ⟨v1, hv1, h⟩ := some_of_bind h
    refine J_gI 9 dX0_bendOf_6 rfl fk_z_260 hv1 ?_
    refine J_icmp_ge 30 12 dX0_bendOf_9 (by decide) rfl (fun c2 => ?_) (fun c2 => ?_)
    · rw [if_pos c2] at h
      refine J_iload_n (i := 2) 2 31 dX0_bendOf_30 rfl rfl rfl ?_
      exact J_iret rfl dX0_bendOf_31 (retI h)
    · rw [if_neg c2] at h
      refine J_aload_n (i := 0) 0 13 dX0_bendOf_12 rfl rfl rfl ?_
      obtain ⟨v3, hv3, h⟩ := some_of_bind h
      refine J_gR 16 dX0_bendOf_13 rfl fk_z_261 hv3 ?_
      refine J_iload_n (i := 2) 2 17 dX0_bendOf_16 rfl rfl rfl ?_
      refine J_ic 18 dX0_bendOf_17 rfl (1 : Int32) kic_1 ?_
      refine J_iadd 19 dX0_bendOf_18 rfl ?_
      obtain ⟨v4, hv4, h⟩ := some_of_bind h
      refine J_iald 20 dX0_bendOf_19 rfl hv4 ?_
      refine J_iload_n (i := 1) 1 21 dX0_bendOf_20 rfl rfl rfl ?_
      refine J_icmp_gt 30 24 dX0_bendOf_21 (by decide) rfl (fun c5 => ?_) (fun c5 => ?_)
      · rw [if_pos c5] at h
        refine J_iload_n (i := 2) 2 31 dX0_bendOf_30 rfl rfl rfl ?_
        exact J_iret rfl dX0_bendOf_31 (retI h)
      · rw [if_neg c5] at h
        refine J_iinc (i := 2) (v := l2 + (1 : Int32)) 2 27 [(2, 1, .int (l2 + (1 : Int32))), (0, 1, va_rf l0), (1, 1, .int l1)] dX0_bendOf_24 rfl rfl (Nat.le_of_ble_eq_true rfl) (by rw [kic_1]) rfl ?_
        refine J_goto 2 dX0_bendOf_27 (by decide) ?_
        refine J.pick [1, 2, 0] rfl ?_
        exact ih (l2 + (1 : Int32)) σ h
def X0_bendOf (l0 : Option Nat) (l1 : Int32) (σ : Hp) : Option (Int32 × Hp) :=
  X0_bendOf_c2 l0 l1  FUEL (0 : Int32) σ
set_option maxHeartbeats 4000000 in
theorem sX0_bendOf {γ : GP} (hγ : GOK γ) (l0 : Option Nat) (l1 : Int32) (σ : Hp) (q : (Int32 × Hp)) (h : X0_bendOf l0 l1 σ = some q) : Rn γ mX0_bendOf yX0_bendOf [va_rf l0, .int l1] (σ, .inr (some (.int q.1)), q.2) := by
  refine J_m hγ ykX0_bendOf rfl [(1, va_rf l0), (1, .int l1)] (cats_r (cats_i cats_nil)) (Nat.le_of_ble_eq_true rfl) ?_
  show J γ mX0_bendOf _ σ 0 [(0, 1, va_rf l0), (1, 1, .int l1)] []
  unfold X0_bendOf at h
  refine J_ic 1 dX0_bendOf_0 rfl (0 : Int32) kic_0 ?_
  refine J_istore_n (i := 2) 2 [(2, 1, .int (0 : Int32)), (0, 1, va_rf l0), (1, 1, .int l1)] dX0_bendOf_1 rfl rfl (Nat.le_of_ble_eq_true rfl) rfl ?_
  refine J.pick [1, 2, 0] rfl ?_
  refine jX0_bendOf_c2 hγ l0 l1  FUEL (0 : Int32) σ h
abbrev mJ6_fill_2 : MP := (cJ6_fill_2, "java/util/Arrays", 4, (Option.none : Option FieldType), 0, "fill", [])
theorem ykJ6_fill_2 : YK yJ6_fill_2 mJ6_fill_2 2 := ⟨q1832, q142, ⟨by decide, by decide⟩, by decide +kernel, Nat.le_of_ble_eq_true rfl, by decide, rfl, rfl⟩
def J6_fill_2_c5 (l0 : Option Nat) (l1 : Int32) (l3 : Int32)  : Nat → Int32 → Hp → Option Hp
  | 0, _, _ => none
  | n + 1, l2, σ =>
    if l3 ≤ l2 then
      some σ
    else
      (sI 0 σ l0 l2 l1).bind fun σ2 =>
      J6_fill_2_c5 l0 l1 l3 n (l2 + (1 : Int32)) σ2
set_option maxHeartbeats 4000000 in
theorem jJ6_fill_2_c5 {γ : GP} {σ0 : Hp} {q : Hp} (hγ : GOK γ) (l0 : Option Nat) (l1 : Int32) (l3 : Int32)  : ∀ (n : Nat) (l2 : Int32) (σ : Hp), J6_fill_2_c5 l0 l1 l3 n l2 σ = some q → J γ mJ6_fill_2 (σ0, .inr none, q) σ 5 [(0, 1, va_rf l0), (1, 1, .int l1), (2, 1, .int l2), (3, 1, .int l3)] [] := by
  intro n
  induction n with
  | zero => intro l2 σ h; exact nomatch (show none = some q from h)
  | succ n ih =>
    intro l2 σ h
    rw [J6_fill_2_c5] at h
    refine J_iload_n (i := 2) 2 6 dJ6_fill_2_5 rfl rfl rfl ?_
    refine J_iload_n (i := 3) 3 7 dJ6_fill_2_6 rfl rfl rfl ?_
    refine J_icmp_ge 20 10 dJ6_fill_2_7 (by decide) rfl (fun c1 => ?_) (fun c1 => ?_)
    · rw [if_pos c1] at h
      exact J_vret rfl dJ6_fill_2_20 (retV h)
    · rw [if_neg c1] at h
      refine J_aload_n (i := 0) 0 11 dJ6_fill_2_10 rfl rfl rfl ?_
      refine J_iload_n (i := 2) 2 12 dJ6_fill_2_11 rfl rfl rfl ?_
      refine J_iload_n (i := 1) 1 13 dJ6_fill_2_12 rfl rfl rfl ?_
      obtain ⟨σ2, hσ2, h⟩ := some_of_bind h
      refine J_iast 14 dJ6_fill_2_13 rfl hσ2 ?_
      refine J_iinc (i := 2) (v := l2 + (1 : Int32)) 2 17 [(2, 1, .int (l2 + (1 : Int32))), (0, 1, va_rf l0), (1, 1, .int l1), (3, 1, .int l3)] dJ6_fill_2_14 rfl rfl (Nat.le_of_ble_eq_true rfl) (by rw [kic_1]) rfl ?_
      refine J_goto 5 dJ6_fill_2_17 (by decide) ?_
      refine J.pick [1, 2, 0, 3] rfl ?_
      exact ih (l2 + (1 : Int32)) σ2 h
def J6_fill_2 (l0 : Option Nat) (l1 : Int32) (σ : Hp) : Option Hp :=
  (aN σ l0).bind fun v1 =>
  J6_fill_2_c5 l0 l1 v1  FUEL (0 : Int32) σ
set_option maxHeartbeats 4000000 in
theorem sJ6_fill_2 {γ : GP} (hγ : GOK γ) (l0 : Option Nat) (l1 : Int32) (σ : Hp) (q : Hp) (h : J6_fill_2 l0 l1 σ = some q) : Rn γ mJ6_fill_2 yJ6_fill_2 [va_rf l0, .int l1] (σ, .inr none, q) := by
  refine J_m hγ ykJ6_fill_2 rfl [(1, va_rf l0), (1, .int l1)] (cats_r (cats_i cats_nil)) (Nat.le_of_ble_eq_true rfl) ?_
  show J γ mJ6_fill_2 _ σ 0 [(0, 1, va_rf l0), (1, 1, .int l1)] []
  unfold J6_fill_2 at h
  refine J_ic 1 dJ6_fill_2_0 rfl (0 : Int32) kic_0 ?_
  refine J_istore_n (i := 2) 2 [(2, 1, .int (0 : Int32)), (0, 1, va_rf l0), (1, 1, .int l1)] dJ6_fill_2_1 rfl rfl (Nat.le_of_ble_eq_true rfl) rfl ?_
  refine J_aload_n (i := 0) 1 3 dJ6_fill_2_2 rfl rfl rfl ?_
  obtain ⟨v1, hv1, h⟩ := some_of_bind h
  refine J_alen 4 dJ6_fill_2_3 rfl hv1 ?_
  refine J_istore_n (i := 3) 5 [(3, 1, .int v1), (2, 1, .int (0 : Int32)), (0, 1, va_rf l0), (1, 1, .int l1)] dJ6_fill_2_4 rfl rfl (Nat.le_of_ble_eq_true rfl) rfl ?_
  refine J.pick [2, 3, 1, 0] rfl ?_
  refine jJ6_fill_2_c5 hγ l0 l1 v1  FUEL (0 : Int32) σ h
abbrev mX0_layBest : MP := (cX0_layBest, "MissCurves", 4, (Option.none : Option FieldType), 2, "layBest", [])
theorem ykX0_layBest : YK yX0_layBest mX0_layBest 0 := ⟨q1840, q128, ⟨by decide, by decide⟩, by decide +kernel, Nat.le_of_ble_eq_true rfl, by decide, rfl, rfl⟩
theorem fk_z_263 : FOK "MissCurves" 111 [0] 23 isR := FOK.one (by decide) rfl (Nat.le_of_ble_eq_true rfl) (Or.inl ⟨_, q407, Or.inl rfl⟩) rfl
def X0_layBest_c37 (l0 : Option Nat) (l1 : Int32) (l2 : Int32) (k95 : Hp → Option Hp) : Nat → Int32 → Hp → Option Hp
  | 0, _, _ => none
  | n + 1, l3, σ =>
    if (24 : Int32) < l3 then
      k95  σ
    else
      if l2 < l3 then
        k95  σ
      else
        (gR σ l0 [0] 23).bind fun v3 =>
        (aR 5 σ v3 l1).bind fun v4 =>
        (gR σ l0 [0] 23).bind fun v5 =>
        (aR 5 σ v5 l1).bind fun v6 =>
        (aI 0 σ v6 l2).bind fun v7 =>
        (cT σ l0 0).bind fun b9 =>
        (X0_book l0 l1 σ).bind fun q8 =>
        (cT q8.2 q8.1 3).bind fun b11 =>
        (X3_misses q8.1 l3 q8.2).bind fun q10 =>
        (gR q10.2 l0 [0] 23).bind fun v12 =>
        (aR 5 q10.2 v12 (l1 + (1 : Int32))).bind fun v13 =>
        (aI 0 q10.2 v13 (l2 - l3)).bind fun v14 =>
        (sI 0 q10.2 v4 l2 (imin v7 (q10.1 + v14))).bind fun σ15 =>
        X0_layBest_c37 l0 l1 l2 k95 n (l3 + (1 : Int32)) σ15
set_option maxHeartbeats 4000000 in
theorem jX0_layBest_c37 {γ : GP} {σ0 : Hp} {q : Hp} (hγ : GOK γ) (l0 : Option Nat) (l1 : Int32) (l2 : Int32) {k95 : Hp → Option Hp} (hk95 : ∀  (σ : Hp), k95  σ = some q → J γ mX0_layBest (σ0, .inr none, q) σ 95 [(0, 1, va_rf l0), (1, 1, .int l1), (2, 1, .int l2)] []) : ∀ (n : Nat) (l3 : Int32) (σ : Hp), X0_layBest_c37 l0 l1 l2 k95 n l3 σ = some q → J γ mX0_layBest (σ0, .inr none, q) σ 37 [(0, 1, va_rf l0), (1, 1, .int l1), (2, 1, .int l2), (3, 1, .int l3)] [] := by
  intro n
  induction n with
  | zero => intro l3 σ h; exact nomatch (show none = some q from h)
  | succ n ih =>
    intro l3 σ h
    rw [X0_layBest_c37] at h
    refine J_iload_n (i := 3) 3 38 dX0_layBest_37 rfl rfl rfl ?_
    refine J_bipush 40 dX0_layBest_38 rfl (24 : Int32) kbp_24 ?_
    refine J_icmp_gt 95 43 dX0_layBest_40 (by decide) rfl (fun c1 => ?_) (fun c1 => ?_)
    · rw [if_pos c1] at h
      refine J.pick [0, 1, 2] rfl ?_
      exact hk95  σ h
    · rw [if_neg c1] at h
      refine J_iload_n (i := 3) 3 44 dX0_layBest_43 rfl rfl rfl ?_
      refine J_iload_n (i := 2) 2 45 dX0_layBest_44 rfl rfl rfl ?_
      refine J_icmp_gt 95 48 dX0_layBest_45 (by decide) rfl (fun c2 => ?_) (fun c2 => ?_)
      · rw [if_pos c2] at h
        refine J.pick [0, 1, 2] rfl ?_
        exact hk95  σ h
      · rw [if_neg c2] at h
        refine J_aload_n (i := 0) 0 49 dX0_layBest_48 rfl rfl rfl ?_
        obtain ⟨v3, hv3, h⟩ := some_of_bind h
        refine J_gR 52 dX0_layBest_49 rfl fk_z_263 hv3 ?_
        refine J_iload_n (i := 1) 1 53 dX0_layBest_52 rfl rfl rfl ?_
        obtain ⟨v4, hv4, h⟩ := some_of_bind h
        refine J_aald 5 (by decide) (by decide) rfl 54 dX0_layBest_53 rfl hv4 ?_
        refine J_iload_n (i := 2) 2 55 dX0_layBest_54 rfl rfl rfl ?_
        refine J_aload_n (i := 0) 0 56 dX0_layBest_55 rfl rfl rfl ?_
        obtain ⟨v5, hv5, h⟩ := some_of_bind h
        refine J_gR 59 dX0_layBest_56 rfl fk_z_263 hv5 ?_
        refine J_iload_n (i := 1) 1 60 dX0_layBest_59 rfl rfl rfl ?_
        obtain ⟨v6, hv6, h⟩ := some_of_bind h
        refine J_aald 5 (by decide) (by decide) rfl 61 dX0_layBest_60 rfl hv6 ?_
        refine J_iload_n (i := 2) 2 62 dX0_layBest_61 rfl rfl rfl ?_
        obtain ⟨v7, hv7, h⟩ := some_of_bind h
        refine J_iald 63 dX0_layBest_62 rfl hv7 ?_
        refine J_aload_n (i := 0) 0 64 dX0_layBest_63 rfl rfl rfl ?_
        refine J_iload_n (i := 1) 1 65 dX0_layBest_64 rfl rfl rfl ?_
        obtain ⟨b9, hb9, h⟩ := some_of_bind h
        obtain ⟨q8, hq8, h⟩ := some_of_bind h
        refine J_cVr 68 dX0_layBest_65 rfl ykX0_book (Or.inl q495) q497 qs1 (Nat.le_of_ble_eq_true rfl) (cs_int (cs_int (cs_rf cs_nil))) (by decide) [.int l1] hb9 (by decide) rfl rfl rfl (sX0_book hγ l0 l1 σ q8 hq8) ?_
        refine J_iload_n (i := 3) 3 69 dX0_layBest_68 rfl rfl rfl ?_
        obtain ⟨b11, hb11, h⟩ := some_of_bind h
        obtain ⟨q10, hq10, h⟩ := some_of_bind h
        refine J_cVi 72 dX0_layBest_69 rfl ykX3_misses (Or.inl q1643) q1644 q1645 (Nat.le_of_ble_eq_true rfl) (cs_int (cs_int (cs_rf cs_nil))) (by decide) [.int l3] hb11 (by decide) rfl rfl rfl (sX3_misses hγ q8.1 l3 q8.2 q10 hq10) ?_
        refine J_aload_n (i := 0) 0 73 dX0_layBest_72 rfl rfl rfl ?_
        obtain ⟨v12, hv12, h⟩ := some_of_bind h
        refine J_gR 76 dX0_layBest_73 rfl fk_z_263 hv12 ?_
        refine J_iload_n (i := 1) 1 77 dX0_layBest_76 rfl rfl rfl ?_
        refine J_ic 78 dX0_layBest_77 rfl (1 : Int32) kic_1 ?_
        refine J_iadd 79 dX0_layBest_78 rfl ?_
        obtain ⟨v13, hv13, h⟩ := some_of_bind h
        refine J_aald 5 (by decide) (by decide) rfl 80 dX0_layBest_79 rfl hv13 ?_
        refine J_iload_n (i := 2) 2 81 dX0_layBest_80 rfl rfl rfl ?_
        refine J_iload_n (i := 3) 3 82 dX0_layBest_81 rfl rfl rfl ?_
        refine J_isub 83 dX0_layBest_82 rfl ?_
        obtain ⟨v14, hv14, h⟩ := some_of_bind h
        refine J_iald 84 dX0_layBest_83 rfl hv14 ?_
        refine J_iadd 85 dX0_layBest_84 rfl ?_
        refine J_mminI q634 (Nat.le_of_ble_eq_true rfl) (cs_int (cs_rf cs_nil)) (by decide) 88 dX0_layBest_85 rfl ?_
        obtain ⟨σ15, hσ15, h⟩ := some_of_bind h
        refine J_iast 89 dX0_layBest_88 rfl hσ15 ?_
        refine J_iinc (i := 3) (v := l3 + (1 : Int32)) 3 92 [(3, 1, .int (l3 + (1 : Int32))), (0, 1, va_rf l0), (1, 1, .int l1), (2, 1, .int l2)] dX0_layBest_89 rfl rfl (Nat.le_of_ble_eq_true rfl) (by rw [kic_1]) rfl ?_
        refine J_goto 37 dX0_layBest_92 (by decide) ?_
        refine J.pick [1, 2, 3, 0] rfl ?_
        exact ih (l3 + (1 : Int32)) σ15 h
def X0_layBest_c18 (l0 : Option Nat) (l1 : Int32) (k101 : Hp → Option Hp) : Nat → Int32 → Hp → Option Hp
  | 0, _, _ => none
  | n + 1, l2, σ =>
    if (48 : Int32) < l2 then
      k101  σ
    else
      (gR σ l0 [0] 23).bind fun v2 =>
      (aR 5 σ v2 l1).bind fun v3 =>
      (sI 0 σ v3 l2 (100000000 : Int32)).bind fun σ4 =>
      X0_layBest_c37 l0 l1 l2 (fun τ5 =>
        X0_layBest_c18 l0 l1 k101 n (l2 + (1 : Int32)) τ5) FUEL (0 : Int32) σ4
set_option maxHeartbeats 4000000 in
theorem jX0_layBest_c18 {γ : GP} {σ0 : Hp} {q : Hp} (hγ : GOK γ) (l0 : Option Nat) (l1 : Int32) {k101 : Hp → Option Hp} (hk101 : ∀  (σ : Hp), k101  σ = some q → J γ mX0_layBest (σ0, .inr none, q) σ 101 [(0, 1, va_rf l0), (1, 1, .int l1)] []) : ∀ (n : Nat) (l2 : Int32) (σ : Hp), X0_layBest_c18 l0 l1 k101 n l2 σ = some q → J γ mX0_layBest (σ0, .inr none, q) σ 18 [(0, 1, va_rf l0), (1, 1, .int l1), (2, 1, .int l2)] [] := by
  intro n
  induction n with
  | zero => intro l2 σ h; exact nomatch (show none = some q from h)
  | succ n ih =>
    intro l2 σ h
    rw [X0_layBest_c18] at h
    refine J_iload_n (i := 2) 2 19 dX0_layBest_18 rfl rfl rfl ?_
    refine J_bipush 21 dX0_layBest_19 rfl (48 : Int32) kbp_48 ?_
    refine J_icmp_gt 101 24 dX0_layBest_21 (by decide) rfl (fun c1 => ?_) (fun c1 => ?_)
    · rw [if_pos c1] at h
      refine J.pick [0, 1] rfl ?_
      exact hk101  σ h
    · rw [if_neg c1] at h
      refine J_aload_n (i := 0) 0 25 dX0_layBest_24 rfl rfl rfl ?_
      obtain ⟨v2, hv2, h⟩ := some_of_bind h
      refine J_gR 28 dX0_layBest_25 rfl fk_z_263 hv2 ?_
      refine J_iload_n (i := 1) 1 29 dX0_layBest_28 rfl rfl rfl ?_
      obtain ⟨v3, hv3, h⟩ := some_of_bind h
      refine J_aald 5 (by decide) (by decide) rfl 30 dX0_layBest_29 rfl hv3 ?_
      refine J_iload_n (i := 2) 2 31 dX0_layBest_30 rfl rfl rfl ?_
      refine J_ldcw (v := (100000000 : Int32)) 34 dX0_layBest_31 rfl q1841 ?_
      obtain ⟨σ4, hσ4, h⟩ := some_of_bind h
      refine J_iast 35 dX0_layBest_34 rfl hσ4 ?_
      refine J_ic 36 dX0_layBest_35 rfl (0 : Int32) kic_0 ?_
      refine J_istore_n (i := 3) 37 [(3, 1, .int (0 : Int32)), (0, 1, va_rf l0), (1, 1, .int l1), (2, 1, .int l2)] dX0_layBest_36 rfl rfl (Nat.le_of_ble_eq_true rfl) rfl ?_
      refine J.pick [1, 2, 3, 0] rfl ?_
      refine jX0_layBest_c37 hγ l0 l1 l2 (fun τ5 h => ?_) FUEL (0 : Int32) σ4 h
      · refine J_iinc (i := 2) (v := l2 + (1 : Int32)) 2 98 [(2, 1, .int (l2 + (1 : Int32))), (0, 1, va_rf l0), (1, 1, .int l1)] dX0_layBest_95 rfl rfl (Nat.le_of_ble_eq_true rfl) (by rw [kic_1]) rfl ?_
        refine J_goto 18 dX0_layBest_98 (by decide) ?_
        refine J.pick [1, 2, 0] rfl ?_
        exact ih (l2 + (1 : Int32)) τ5 h
def X0_layBest_c12 (l0 : Option Nat)  : Nat → Int32 → Hp → Option Hp
  | 0, _, _ => none
  | n + 1, l1, σ =>
    if l1 < 0 then
      some σ
    else
      X0_layBest_c18 l0 l1 (fun τ2 =>
        X0_layBest_c12 l0 n (l1 + (-1 : Int32)) τ2) FUEL (0 : Int32) σ
set_option maxHeartbeats 4000000 in
theorem jX0_layBest_c12 {γ : GP} {σ0 : Hp} {q : Hp} (hγ : GOK γ) (l0 : Option Nat)  : ∀ (n : Nat) (l1 : Int32) (σ : Hp), X0_layBest_c12 l0 n l1 σ = some q → J γ mX0_layBest (σ0, .inr none, q) σ 12 [(0, 1, va_rf l0), (1, 1, .int l1)] [] := by
  intro n
  induction n with
  | zero => intro l1 σ h; exact nomatch (show none = some q from h)
  | succ n ih =>
    intro l1 σ h
    rw [X0_layBest_c12] at h
    refine J_iload_n (i := 1) 1 13 dX0_layBest_12 rfl rfl rfl ?_
    refine J_if_lt 107 16 dX0_layBest_13 (by decide) rfl (fun c1 => ?_) (fun c1 => ?_)
    · rw [if_pos c1] at h
      exact J_vret rfl dX0_layBest_107 (retV h)
    · rw [if_neg c1] at h
      refine J_ic 17 dX0_layBest_16 rfl (0 : Int32) kic_0 ?_
      refine J_istore_n (i := 2) 18 [(2, 1, .int (0 : Int32)), (0, 1, va_rf l0), (1, 1, .int l1)] dX0_layBest_17 rfl rfl (Nat.le_of_ble_eq_true rfl) rfl ?_
      refine J.pick [1, 2, 0] rfl ?_
      refine jX0_layBest_c18 hγ l0 l1 (fun τ2 h => ?_) FUEL (0 : Int32) σ h
      · refine J_iinc (i := 1) (v := l1 + (-1 : Int32)) 1 104 [(1, 1, .int (l1 + (-1 : Int32))), (0, 1, va_rf l0)] dX0_layBest_101 rfl rfl (Nat.le_of_ble_eq_true rfl) (by rw [kic_m1]) rfl ?_
        refine J_goto 12 dX0_layBest_104 (by decide) ?_
        refine J.pick [1, 0] rfl ?_
        exact ih (l1 + (-1 : Int32)) τ2 h
def X0_layBest (l0 : Option Nat) (σ : Hp) : Option Hp :=
  (gR σ l0 [0] 23).bind fun v1 =>
  (aR 5 σ v1 (4 : Int32)).bind fun v2 =>
  (J6_fill_2 v2 (0 : Int32) σ).bind fun q3 =>
  X0_layBest_c12 l0  FUEL (3 : Int32) q3
set_option maxHeartbeats 4000000 in
theorem sX0_layBest {γ : GP} (hγ : GOK γ) (l0 : Option Nat) (σ : Hp) (q : Hp) (h : X0_layBest l0 σ = some q) : Rn γ mX0_layBest yX0_layBest [va_rf l0] (σ, .inr none, q) := by
  refine J_m hγ ykX0_layBest rfl [(1, va_rf l0)] (cats_r cats_nil) (Nat.le_of_ble_eq_true rfl) ?_
  show J γ mX0_layBest _ σ 0 [(0, 1, va_rf l0)] []
  unfold X0_layBest at h
  refine J_aload_n (i := 0) 0 1 dX0_layBest_0 rfl rfl rfl ?_
  obtain ⟨v1, hv1, h⟩ := some_of_bind h
  refine J_gR 4 dX0_layBest_1 rfl fk_z_263 hv1 ?_
  refine J_ic 5 dX0_layBest_4 rfl (4 : Int32) kic_4 ?_
  obtain ⟨v2, hv2, h⟩ := some_of_bind h
  refine J_aald 5 (by decide) (by decide) rfl 6 dX0_layBest_5 rfl hv2 ?_
  refine J_ic 7 dX0_layBest_6 rfl (0 : Int32) kic_0 ?_
  obtain ⟨q3, hq3, h⟩ := some_of_bind h
  refine J_cSv 10 dX0_layBest_7 rfl ykJ6_fill_2 (Or.inl q1830) q1831 (Nat.le_of_ble_eq_true rfl) cs_nil (by decide) [va_rf v2, .int (0 : Int32)] rfl rfl (sJ6_fill_2 hγ v2 (0 : Int32) σ q3 hq3) ?_
  refine J_ic 11 dX0_layBest_10 rfl (3 : Int32) kic_3 ?_
  refine J_istore_n (i := 1) 12 [(1, 1, .int (3 : Int32)), (0, 1, va_rf l0)] dX0_layBest_11 rfl rfl (Nat.le_of_ble_eq_true rfl) rfl ?_
  refine J.pick [1, 0] rfl ?_
  refine jX0_layBest_c12 hγ l0  FUEL (3 : Int32) q3 h
abbrev mX0_best : MP := (cX0_best, "MissCurves", 6, (Option.some FieldType.int), 3, "best", [])
theorem ykX0_best : YK yX0_best mX0_best 2 := ⟨q1836, q128, ⟨by decide, by decide⟩, by decide +kernel, Nat.le_of_ble_eq_true rfl, by decide, rfl, rfl⟩
def X0_best_c61 (l0 : Option Nat) (l2 : Int32) (l3 : Int32) (l5 : Int32) (k105 : Int32 → Hp → Option (Int32 × Hp)) : Nat → Int32 → Hp → Option (Int32 × Hp)
  | 0, _, _ => none
  | n + 1, l4, σ =>
    (cT σ l0 0).bind fun b2 =>
    (X0_book l0 l5 σ).bind fun q1 =>
    (cT q1.2 q1.1 3).bind fun b4 =>
    (X3_misses q1.1 l4 q1.2).bind fun q3 =>
    (gR q3.2 l0 [0] 23).bind fun v5 =>
    (aR 5 q3.2 v5 (l5 + (1 : Int32))).bind fun v6 =>
    (aI 0 q3.2 v6 (l3 - l4)).bind fun v7 =>
    (gR q3.2 l0 [0] 23).bind fun v8 =>
    (aR 5 q3.2 v8 l5).bind fun v9 =>
    (aI 0 q3.2 v9 l3).bind fun v10 =>
    if (q3.1 + v7) = v10 then
      k105 l4 q3.2
    else
      X0_best_c61 l0 l2 l3 l5 k105 n (l4 + (1 : Int32)) q3.2
set_option maxHeartbeats 4000000 in
theorem jX0_best_c61 {γ : GP} {σ0 : Hp} {q : (Int32 × Hp)} (hγ : GOK γ) (l0 : Option Nat) (l2 : Int32) (l3 : Int32) (l5 : Int32) {k105 : Int32 → Hp → Option (Int32 × Hp)} (hk105 : ∀ (l4 : Int32) (σ : Hp), k105 l4 σ = some q → J γ mX0_best (σ0, .inr (some (.int q.1)), q.2) σ 105 [(0, 1, va_rf l0), (2, 1, .int l2), (3, 1, .int l3), (4, 1, .int l4), (5, 1, .int l5)] []) : ∀ (n : Nat) (l4 : Int32) (σ : Hp), X0_best_c61 l0 l2 l3 l5 k105 n l4 σ = some q → J γ mX0_best (σ0, .inr (some (.int q.1)), q.2) σ 61 [(0, 1, va_rf l0), (2, 1, .int l2), (3, 1, .int l3), (4, 1, .int l4), (5, 1, .int l5)] [] := by
  intro n
  induction n with
  | zero => intro l4 σ h; exact nomatch (show none = some q from h)
  | succ n ih =>
    intro l4 σ h
    rw [X0_best_c61] at h
    refine J_aload_n (i := 0) 0 62 dX0_best_61 rfl rfl rfl ?_
    refine J_iload (i := 5) 4 64 dX0_best_62 rfl rfl ?_
    obtain ⟨b2, hb2, h⟩ := some_of_bind h
    obtain ⟨q1, hq1, h⟩ := some_of_bind h
    refine J_cVr 67 dX0_best_64 rfl ykX0_book (Or.inl q495) q497 qs1 (Nat.le_of_ble_eq_true rfl) cs_nil (by decide) [.int l5] hb2 (by decide) rfl rfl rfl (sX0_book hγ l0 l5 σ q1 hq1) ?_
    refine J_iload (i := 4) 3 69 dX0_best_67 rfl rfl ?_
    obtain ⟨b4, hb4, h⟩ := some_of_bind h
    obtain ⟨q3, hq3, h⟩ := some_of_bind h
    refine J_cVi 72 dX0_best_69 rfl ykX3_misses (Or.inl q1643) q1644 q1645 (Nat.le_of_ble_eq_true rfl) cs_nil (by decide) [.int l4] hb4 (by decide) rfl rfl rfl (sX3_misses hγ q1.1 l4 q1.2 q3 hq3) ?_
    refine J_aload_n (i := 0) 0 73 dX0_best_72 rfl rfl rfl ?_
    obtain ⟨v5, hv5, h⟩ := some_of_bind h
    refine J_gR 76 dX0_best_73 rfl fk_z_263 hv5 ?_
    refine J_iload (i := 5) 4 78 dX0_best_76 rfl rfl ?_
    refine J_ic 79 dX0_best_78 rfl (1 : Int32) kic_1 ?_
    refine J_iadd 80 dX0_best_79 rfl ?_
    obtain ⟨v6, hv6, h⟩ := some_of_bind h
    refine J_aald 5 (by decide) (by decide) rfl 81 dX0_best_80 rfl hv6 ?_
    refine J_iload_n (i := 3) 2 82 dX0_best_81 rfl rfl rfl ?_
    refine J_iload (i := 4) 3 84 dX0_best_82 rfl rfl ?_
    refine J_isub 85 dX0_best_84 rfl ?_
    obtain ⟨v7, hv7, h⟩ := some_of_bind h
    refine J_iald 86 dX0_best_85 rfl hv7 ?_
    refine J_iadd 87 dX0_best_86 rfl ?_
    refine J_aload_n (i := 0) 0 88 dX0_best_87 rfl rfl rfl ?_
    obtain ⟨v8, hv8, h⟩ := some_of_bind h
    refine J_gR 91 dX0_best_88 rfl fk_z_263 hv8 ?_
    refine J_iload (i := 5) 4 93 dX0_best_91 rfl rfl ?_
    obtain ⟨v9, hv9, h⟩ := some_of_bind h
    refine J_aald 5 (by decide) (by decide) rfl 94 dX0_best_93 rfl hv9 ?_
    refine J_iload_n (i := 3) 2 95 dX0_best_94 rfl rfl rfl ?_
    obtain ⟨v10, hv10, h⟩ := some_of_bind h
    refine J_iald 96 dX0_best_95 rfl hv10 ?_
    refine J_icmp_eq 105 99 dX0_best_96 (by decide) rfl (fun c11 => ?_) (fun c11 => ?_)
    · rw [if_pos c11] at h
      exact hk105 l4 q3.2 h
    · rw [if_neg c11] at h
      refine J_iinc (i := 4) (v := l4 + (1 : Int32)) 3 102 [(4, 1, .int (l4 + (1 : Int32))), (0, 1, va_rf l0), (2, 1, .int l2), (3, 1, .int l3), (5, 1, .int l5)] dX0_best_99 rfl rfl (Nat.le_of_ble_eq_true rfl) (by rw [kic_1]) rfl ?_
      refine J_goto 61 dX0_best_102 (by decide) ?_
      refine J.pick [1, 2, 3, 0, 4] rfl ?_
      exact ih (l4 + (1 : Int32)) q3.2 h
def X0_best_c52 (l0 : Option Nat) (l2 : Int32)  : Nat → Int32 → Int32 → Int32 → Hp → Option (Int32 × Hp)
  | 0, _, _, _, _ => none
  | n + 1, l3, l4, l5, σ =>
    if l2 < l5 then
      some (l4, σ)
    else
      X0_best_c61 l0 l2 l3 l5 (fun x2 τ3 =>
        X0_best_c52 l0 l2 n (l3 - x2) x2 (l5 + (1 : Int32)) τ3) FUEL (0 : Int32) σ
set_option maxHeartbeats 4000000 in
theorem jX0_best_c52 {γ : GP} {σ0 : Hp} {q : (Int32 × Hp)} (hγ : GOK γ) (l0 : Option Nat) (l2 : Int32)  : ∀ (n : Nat) (l3 : Int32) (l4 : Int32) (l5 : Int32) (σ : Hp), X0_best_c52 l0 l2 n l3 l4 l5 σ = some q → J γ mX0_best (σ0, .inr (some (.int q.1)), q.2) σ 52 [(0, 1, va_rf l0), (2, 1, .int l2), (3, 1, .int l3), (4, 1, .int l4), (5, 1, .int l5)] [] := by
  intro n
  induction n with
  | zero => intro l3 l4 l5 σ h; exact nomatch (show none = some q from h)
  | succ n ih =>
    intro l3 l4 l5 σ h
    rw [X0_best_c52] at h
    refine J_iload (i := 5) 4 54 dX0_best_52 rfl rfl ?_
    refine J_iload_n (i := 2) 1 55 dX0_best_54 rfl rfl rfl ?_
    refine J_icmp_gt 116 58 dX0_best_55 (by decide) rfl (fun c1 => ?_) (fun c1 => ?_)
    · rw [if_pos c1] at h
      refine J_iload (i := 4) 3 118 dX0_best_116 rfl rfl ?_
      exact J_iret rfl dX0_best_118 (retI h)
    · rw [if_neg c1] at h
      refine J_ic 59 dX0_best_58 rfl (0 : Int32) kic_0 ?_
      refine J_istore (i := 4) 61 [(4, 1, .int (0 : Int32)), (0, 1, va_rf l0), (2, 1, .int l2), (3, 1, .int l3), (5, 1, .int l5)] dX0_best_59 rfl (Nat.le_of_ble_eq_true rfl) rfl ?_
      refine J.pick [1, 2, 3, 0, 4] rfl ?_
      refine jX0_best_c61 hγ l0 l2 l3 l5 (fun x2 τ3 h => ?_) FUEL (0 : Int32) σ h
      · refine J_iload_n (i := 3) 2 106 dX0_best_105 rfl rfl rfl ?_
        refine J_iload (i := 4) 3 108 dX0_best_106 rfl rfl ?_
        refine J_isub 109 dX0_best_108 rfl ?_
        refine J_istore_n (i := 3) 110 [(3, 1, .int (l3 - x2)), (0, 1, va_rf l0), (2, 1, .int l2), (4, 1, .int x2), (5, 1, .int l5)] dX0_best_109 rfl rfl (Nat.le_of_ble_eq_true rfl) rfl ?_
        refine J_iinc (i := 5) (v := l5 + (1 : Int32)) 4 113 [(5, 1, .int (l5 + (1 : Int32))), (3, 1, .int (l3 - x2)), (0, 1, va_rf l0), (2, 1, .int l2), (4, 1, .int x2)] dX0_best_110 rfl rfl (Nat.le_of_ble_eq_true rfl) (by rw [kic_1]) rfl ?_
        refine J_goto 52 dX0_best_113 (by decide) ?_
        refine J.pick [2, 3, 1, 4, 0] rfl ?_
        exact ih (l3 - x2) x2 (l5 + (1 : Int32)) τ3 h
def X0_best_c26  (l0 : Option Nat) (l1 : Int32) (l2 : Int32)  (σ : Hp) : Option (Int32 × Hp) :=
  (cT σ l0 0).bind fun b2 =>
  (X0_layBest l0  σ).bind fun q1 =>
  if l2 = (-1 : Int32) then
    (gR q1 l0 [0] 23).bind fun v4 =>
    (aR 5 q1 v4 (0 : Int32)).bind fun v5 =>
    (aI 0 q1 v5 l1).bind fun v6 =>
    some (v6, q1)
  else
    X0_best_c52 l0 l2  FUEL l1 (0 : Int32) (0 : Int32) q1
set_option maxHeartbeats 4000000 in
theorem jX0_best_c26 {γ : GP} {σ0 : Hp} {q : (Int32 × Hp)} (hγ : GOK γ) (l0 : Option Nat) (l1 : Int32) (l2 : Int32)   (σ : Hp) (h : X0_best_c26 l0 l1 l2 σ = some q) : J γ mX0_best (σ0, .inr (some (.int q.1)), q.2) σ 26 [(0, 1, va_rf l0), (1, 1, .int l1), (2, 1, .int l2)] [] := by
  unfold X0_best_c26 at h
  refine J_aload_n (i := 0) 0 27 dX0_best_26 rfl rfl rfl ?_
  obtain ⟨b2, hb2, h⟩ := some_of_bind h
  obtain ⟨q1, hq1, h⟩ := some_of_bind h
  refine J_cVv 30 dX0_best_27 rfl ykX0_layBest (Or.inl q1837) q1839 qs31 (Nat.le_of_ble_eq_true rfl) cs_nil (by decide) [] hb2 (by decide) rfl rfl rfl (sX0_layBest hγ l0  σ q1 hq1) ?_
  refine J_iload_n (i := 2) 2 31 dX0_best_30 rfl rfl rfl ?_
  refine J_ic 32 dX0_best_31 rfl (-1 : Int32) kic_m1 ?_
  refine J_icmp_ne 44 35 dX0_best_32 (by decide) rfl (fun c3 => ?_) (fun c3 => ?_)
  · rw [if_neg c3] at h
    refine J_iload_n (i := 1) 1 45 dX0_best_44 rfl rfl rfl ?_
    refine J_istore_n (i := 3) 46 [(3, 1, .int l1), (0, 1, va_rf l0), (1, 1, .int l1), (2, 1, .int l2)] dX0_best_45 rfl rfl (Nat.le_of_ble_eq_true rfl) rfl ?_
    refine J_ic 47 dX0_best_46 rfl (0 : Int32) kic_0 ?_
    refine J_istore (i := 4) 49 [(4, 1, .int (0 : Int32)), (3, 1, .int l1), (0, 1, va_rf l0), (1, 1, .int l1), (2, 1, .int l2)] dX0_best_47 rfl (Nat.le_of_ble_eq_true rfl) rfl ?_
    refine J_ic 50 dX0_best_49 rfl (0 : Int32) kic_0 ?_
    refine J_istore (i := 5) 52 [(5, 1, .int (0 : Int32)), (4, 1, .int (0 : Int32)), (3, 1, .int l1), (0, 1, va_rf l0), (1, 1, .int l1), (2, 1, .int l2)] dX0_best_50 rfl (Nat.le_of_ble_eq_true rfl) rfl ?_
    refine J.pick [3, 5, 2, 1, 0] rfl ?_
    refine jX0_best_c52 hγ l0 l2  FUEL l1 (0 : Int32) (0 : Int32) q1 h
  · rw [if_pos c3] at h
    refine J_aload_n (i := 0) 0 36 dX0_best_35 rfl rfl rfl ?_
    obtain ⟨v4, hv4, h⟩ := some_of_bind h
    refine J_gR 39 dX0_best_36 rfl fk_z_263 hv4 ?_
    refine J_ic 40 dX0_best_39 rfl (0 : Int32) kic_0 ?_
    obtain ⟨v5, hv5, h⟩ := some_of_bind h
    refine J_aald 5 (by decide) (by decide) rfl 41 dX0_best_40 rfl hv5 ?_
    refine J_iload_n (i := 1) 1 42 dX0_best_41 rfl rfl rfl ?_
    obtain ⟨v6, hv6, h⟩ := some_of_bind h
    refine J_iald 43 dX0_best_42 rfl hv6 ?_
    exact J_iret rfl dX0_best_43 (retI h)
def X0_best (l0 : Option Nat) (l1 : Int32) (l2 : Int32) (σ : Hp) : Option (Int32 × Hp) :=
  (X0_in l1.toInt64 (0 : Int64) (48 : Int64) σ).bind fun q1 =>
  if q1.1 = 0 then
    some ((-1 : Int32), q1.2)
  else
    if l2 = (-1 : Int32) then
      X0_best_c26  l0 l1 l2  q1.2
    else
      (X0_isTenant l2 q1.2).bind fun q4 =>
      if q4.1 = 0 then
        some ((-1 : Int32), q4.2)
      else
        X0_best_c26  l0 l1 l2  q4.2
set_option maxHeartbeats 4000000 in
theorem sX0_best {γ : GP} (hγ : GOK γ) (l0 : Option Nat) (l1 : Int32) (l2 : Int32) (σ : Hp) (q : (Int32 × Hp)) (h : X0_best l0 l1 l2 σ = some q) : Rn γ mX0_best yX0_best [va_rf l0, .int l1, .int l2] (σ, .inr (some (.int q.1)), q.2) := by
  refine J_m hγ ykX0_best rfl [(1, va_rf l0), (1, .int l1), (1, .int l2)] (cats_r (cats_i (cats_i cats_nil))) (Nat.le_of_ble_eq_true rfl) ?_
  show J γ mX0_best _ σ 0 [(0, 1, va_rf l0), (1, 1, .int l1), (2, 1, .int l2)] []
  unfold X0_best at h
  refine J_iload_n (i := 1) 1 1 dX0_best_0 rfl rfl rfl ?_
  refine J_i2l 2 dX0_best_1 rfl ?_
  refine J_lconst 3 dX0_best_2 rfl (0 : Int64) rfl ?_
  refine J_ldc2 (v := (48 : Int64)) 6 dX0_best_3 rfl q1825 ?_
  obtain ⟨q1, hq1, h⟩ := some_of_bind h
  refine J_cSi 9 dX0_best_6 rfl ykX0_in (Or.inl q484) q485 (Nat.le_of_ble_eq_true rfl) cs_nil (by decide) [.long l1.toInt64, .long (0 : Int64), .long (48 : Int64)] rfl rfl (sX0_in hγ l1.toInt64 (0 : Int64) (48 : Int64) σ q1 hq1) ?_
  refine J_if_eq 24 12 dX0_best_9 (by decide) rfl (fun c2 => ?_) (fun c2 => ?_)
  · rw [if_pos c2] at h
    refine J_ic 25 dX0_best_24 rfl (-1 : Int32) kic_m1 ?_
    exact J_iret rfl dX0_best_25 (retI h)
  · rw [if_neg c2] at h
    refine J_iload_n (i := 2) 2 13 dX0_best_12 rfl rfl rfl ?_
    refine J_ic 14 dX0_best_13 rfl (-1 : Int32) kic_m1 ?_
    refine J_icmp_eq 26 17 dX0_best_14 (by decide) rfl (fun c3 => ?_) (fun c3 => ?_)
    · rw [if_pos c3] at h
      exact jX0_best_c26 hγ l0 l1 l2  q1.2 h
    · rw [if_neg c3] at h
      refine J_iload_n (i := 2) 2 18 dX0_best_17 rfl rfl rfl ?_
      obtain ⟨q4, hq4, h⟩ := some_of_bind h
      refine J_cSi 21 dX0_best_18 rfl ykX0_isTenant (Or.inl q491) q492 (Nat.le_of_ble_eq_true rfl) cs_nil (by decide) [.int l2] rfl rfl (sX0_isTenant hγ l2 q1.2 q4 hq4) ?_
      refine J_if_ne 26 24 dX0_best_21 (by decide) rfl (fun c5 => ?_) (fun c5 => ?_)
      · rw [if_neg c5] at h
        exact jX0_best_c26 hγ l0 l1 l2  q4.2 h
      · rw [if_pos c5] at h
        refine J_ic 25 dX0_best_24 rfl (-1 : Int32) kic_m1 ?_
        exact J_iret rfl dX0_best_25 (retI h)
abbrev mX0_blanks : MP := (cX0_blanks, "MissCurves", 1, (Option.some FieldType.int), 0, "blanks", [])
theorem ykX0_blanks : YK yX0_blanks mX0_blanks 0 := ⟨q771, q128, ⟨by decide, by decide⟩, by decide +kernel, Nat.le_of_ble_eq_true rfl, by decide, rfl, rfl⟩
theorem fk_z_264 : FOK "MissCurves" 226 [0] 12 isI := FOK.one (by decide) rfl (Nat.le_of_ble_eq_true rfl) (Or.inl ⟨_, q393, Or.inl rfl⟩) rfl
def X0_blanks (l0 : Option Nat) (σ : Hp) : Option (Int32 × Hp) :=
  (gI σ l0 [0] 12).bind fun v1 =>
  some (v1, σ)
set_option maxHeartbeats 4000000 in
theorem sX0_blanks {γ : GP} (hγ : GOK γ) (l0 : Option Nat) (σ : Hp) (q : (Int32 × Hp)) (h : X0_blanks l0 σ = some q) : Rn γ mX0_blanks yX0_blanks [va_rf l0] (σ, .inr (some (.int q.1)), q.2) := by
  refine J_m hγ ykX0_blanks rfl [(1, va_rf l0)] (cats_r cats_nil) (Nat.le_of_ble_eq_true rfl) ?_
  show J γ mX0_blanks _ σ 0 [(0, 1, va_rf l0)] []
  unfold X0_blanks at h
  refine J_aload_n (i := 0) 0 1 dX0_blanks_0 rfl rfl rfl ?_
  obtain ⟨v1, hv1, h⟩ := some_of_bind h
  refine J_gI 4 dX0_blanks_1 rfl fk_z_264 hv1 ?_
  exact J_iret rfl dX0_blanks_4 (retI h)
abbrev mX0_byteAt : MP := (cX0_byteAt, "MissCurves", 2, (Option.some FieldType.int), 0, "byteAt", [])
theorem ykX0_byteAt : YK yX0_byteAt mX0_byteAt 2 := ⟨q735, q128, ⟨by decide, by decide⟩, by decide +kernel, Nat.le_of_ble_eq_true rfl, by decide, rfl, rfl⟩
def X0_byteAt (l0 : Option Nat) (l1 : Int32) (σ : Hp) : Option (Int32 × Hp) :=
  (aI 2 σ l0 l1).bind fun v1 =>
  some ((v1 &&& (255 : Int32)), σ)
set_option maxHeartbeats 4000000 in
theorem sX0_byteAt {γ : GP} (hγ : GOK γ) (l0 : Option Nat) (l1 : Int32) (σ : Hp) (q : (Int32 × Hp)) (h : X0_byteAt l0 l1 σ = some q) : Rn γ mX0_byteAt yX0_byteAt [va_rf l0, .int l1] (σ, .inr (some (.int q.1)), q.2) := by
  refine J_m hγ ykX0_byteAt rfl [(1, va_rf l0), (1, .int l1)] (cats_r (cats_i cats_nil)) (Nat.le_of_ble_eq_true rfl) ?_
  show J γ mX0_byteAt _ σ 0 [(0, 1, va_rf l0), (1, 1, .int l1)] []
  unfold X0_byteAt at h
  refine J_aload_n (i := 0) 0 1 dX0_byteAt_0 rfl rfl rfl ?_
  refine J_iload_n (i := 1) 1 2 dX0_byteAt_1 rfl rfl rfl ?_
  obtain ⟨v1, hv1, h⟩ := some_of_bind h
  refine J_bald 3 dX0_byteAt_2 rfl hv1 ?_
  refine J_sipush 6 dX0_byteAt_3 rfl (255 : Int32) ksp_255 ?_
  refine J_iand 7 dX0_byteAt_6 rfl ?_
  exact J_iret rfl dX0_byteAt_7 (retI h)
abbrev mX0_isLaw : MP := (cX0_isLaw, "MissCurves", 2, (Option.some FieldType.boolean), 1, "isLaw", [])
theorem ykX0_isLaw : YK yX0_isLaw mX0_isLaw 1 := ⟨q1571, q128, ⟨by decide, by decide⟩, by decide +kernel, Nat.le_of_ble_eq_true rfl, by decide, rfl, rfl⟩
theorem fk_z_265 : FOK "MissCurves" 264 [1] 0 isR := FOK.one (by decide) rfl (Nat.le_of_ble_eq_true rfl) (Or.inr ⟨_, q293⟩) rfl
def X0_isLaw (l0 : Option Nat) (l1 : Int32) (σ : Hp) : Option (Int32 × Hp) :=
  if l1 = (-1 : Int32) then
    some ((1 : Int32), σ)
  else
    (gR σ l0 [0] 0).bind fun v3 =>
    (gR σ v3 [1] 0).bind fun v4 =>
    (cT σ v4 31).bind fun b6 =>
    (J2_size v4  σ).bind fun q5 =>
    (X0_in l1.toInt64 (0 : Int64) ((q5.1 - (1 : Int32)).toInt64) q5.2).bind fun q7 =>
    if q7.1 = 0 then
      some ((0 : Int32), q7.2)
    else
      some ((1 : Int32), q7.2)
set_option maxHeartbeats 4000000 in
theorem sX0_isLaw {γ : GP} (hγ : GOK γ) (l0 : Option Nat) (l1 : Int32) (σ : Hp) (q : (Int32 × Hp)) (h : X0_isLaw l0 l1 σ = some q) : Rn γ mX0_isLaw yX0_isLaw [va_rf l0, .int l1] (σ, .inr (some (.int q.1)), q.2) := by
  refine J_m hγ ykX0_isLaw rfl [(1, va_rf l0), (1, .int l1)] (cats_r (cats_i cats_nil)) (Nat.le_of_ble_eq_true rfl) ?_
  show J γ mX0_isLaw _ σ 0 [(0, 1, va_rf l0), (1, 1, .int l1)] []
  unfold X0_isLaw at h
  refine J_iload_n (i := 1) 1 1 dX0_isLaw_0 rfl rfl rfl ?_
  refine J_ic 2 dX0_isLaw_1 rfl (-1 : Int32) kic_m1 ?_
  refine J_icmp_eq 27 5 dX0_isLaw_2 (by decide) rfl (fun c1 => ?_) (fun c1 => ?_)
  · rw [if_pos c1] at h
    refine J_ic 28 dX0_isLaw_27 rfl (1 : Int32) kic_1 ?_
    refine J_goto 32 dX0_isLaw_28 (by decide) ?_
    exact J_zret rfl (by decide) dX0_isLaw_32 (retI h)
  · rw [if_neg c1] at h
    refine J_iload_n (i := 1) 1 6 dX0_isLaw_5 rfl rfl rfl ?_
    refine J_i2l 7 dX0_isLaw_6 rfl ?_
    refine J_lconst 8 dX0_isLaw_7 rfl (0 : Int64) rfl ?_
    refine J_aload_n (i := 0) 0 9 dX0_isLaw_8 rfl rfl rfl ?_
    obtain ⟨v3, hv3, h⟩ := some_of_bind h
    refine J_gR 12 dX0_isLaw_9 rfl fk_x_133 hv3 ?_
    obtain ⟨v4, hv4, h⟩ := some_of_bind h
    refine J_gR 15 dX0_isLaw_12 rfl fk_z_265 hv4 ?_
    obtain ⟨b6, hb6, h⟩ := some_of_bind h
    obtain ⟨q5, hq5, h⟩ := some_of_bind h
    refine J_cVi 18 dX0_isLaw_15 rfl ykJ2_size (Or.inl q1046) q1047 q1048 (Nat.le_of_ble_eq_true rfl) (cs_long (cs_long cs_nil)) (by decide) [] hb6 (by decide) rfl rfl rfl (sJ2_size hγ v4  σ q5 hq5) ?_
    refine J_ic 19 dX0_isLaw_18 rfl (1 : Int32) kic_1 ?_
    refine J_isub 20 dX0_isLaw_19 rfl ?_
    refine J_i2l 21 dX0_isLaw_20 rfl ?_
    obtain ⟨q7, hq7, h⟩ := some_of_bind h
    refine J_cSi 24 dX0_isLaw_21 rfl ykX0_in (Or.inl q484) q485 (Nat.le_of_ble_eq_true rfl) cs_nil (by decide) [.long l1.toInt64, .long (0 : Int64), .long ((q5.1 - (1 : Int32)).toInt64)] rfl rfl (sX0_in hγ l1.toInt64 (0 : Int64) ((q5.1 - (1 : Int32)).toInt64) q5.2 q7 hq7) ?_
    refine J_if_eq 31 27 dX0_isLaw_24 (by decide) rfl (fun c8 => ?_) (fun c8 => ?_)
    · rw [if_pos c8] at h
      refine J_ic 32 dX0_isLaw_31 rfl (0 : Int32) kic_0 ?_
      exact J_zret rfl (by decide) dX0_isLaw_32 (retI h)
    · rw [if_neg c8] at h
      refine J_ic 28 dX0_isLaw_27 rfl (1 : Int32) kic_1 ?_
      refine J_goto 32 dX0_isLaw_28 (by decide) ?_
      exact J_zret rfl (by decide) dX0_isLaw_32 (retI h)
abbrev mX0_isKey : MP := (cX0_isKey, "MissCurves", 1, (Option.some FieldType.boolean), 1, "isKey", [])
theorem ykX0_isKey : YK yX0_isKey mX0_isKey 1 := ⟨q515, q128, ⟨by decide, by decide⟩, by decide +kernel, Nat.le_of_ble_eq_true rfl, by decide, rfl, rfl⟩
def X0_isKey (l0 : Int32) (σ : Hp) : Option (Int32 × Hp) :=
  (X0_in l0.toInt64 (0 : Int64) (999 : Int64) σ).bind fun q1 =>
  rZ q1.1 q1.2
set_option maxHeartbeats 4000000 in
theorem sX0_isKey {γ : GP} (hγ : GOK γ) (l0 : Int32) (σ : Hp) (q : (Int32 × Hp)) (h : X0_isKey l0 σ = some q) : Rn γ mX0_isKey yX0_isKey [.int l0] (σ, .inr (some (.int q.1)), q.2) := by
  refine J_m hγ ykX0_isKey rfl [(1, .int l0)] (cats_i cats_nil) (Nat.le_of_ble_eq_true rfl) ?_
  show J γ mX0_isKey _ σ 0 [(0, 1, .int l0)] []
  unfold X0_isKey at h
  refine J_iload_n (i := 0) 0 1 dX0_isKey_0 rfl rfl rfl ?_
  refine J_i2l 2 dX0_isKey_1 rfl ?_
  refine J_lconst 3 dX0_isKey_2 rfl (0 : Int64) rfl ?_
  refine J_ldc2 (v := (999 : Int64)) 6 dX0_isKey_3 rfl q516 ?_
  obtain ⟨q1, hq1, h⟩ := some_of_bind h
  refine J_cSi 9 dX0_isKey_6 rfl ykX0_in (Or.inl q484) q485 (Nat.le_of_ble_eq_true rfl) cs_nil (by decide) [.long l0.toInt64, .long (0 : Int64), .long (999 : Int64)] rfl rfl (sX0_in hγ l0.toInt64 (0 : Int64) (999 : Int64) σ q1 hq1) ?_
  exact J_zret rfl (ite_some h).1 dX0_isKey_9 (retZ h)
abbrev mX0_law1 : MP := (cX0_law1, "MissCurves", 1, (Option.some (FieldType.object "MissCurves$Text")), 4, "law1", [])
theorem ykX0_law1 : YK yX0_law1 mX0_law1 0 := ⟨q546, q128, ⟨by decide, by decide⟩, by decide +kernel, Nat.le_of_ble_eq_true rfl, by decide, rfl, rfl⟩
theorem fk_z_266 : FOK "MissCurves" 293 [1] 6 isI := FOK.one (by decide) rfl (Nat.le_of_ble_eq_true rfl) (Or.inr ⟨_, q305⟩) rfl
theorem fk_z_267 : FOK "MissCurves" 67 [0] 8 isR := FOK.one (by decide) rfl (Nat.le_of_ble_eq_true rfl) (Or.inl ⟨_, q389, Or.inl rfl⟩) rfl
def X0_law1 (l0 : Option Nat) (σ : Hp) : Option (Option Nat × Hp) :=
  (gR σ l0 [0] 0).bind fun v1 =>
  (gI σ v1 [1] 6).bind fun v2 =>
  if v2 = (-1 : Int32) then
    (gR σ l0 [0] 8).bind fun v11 =>
    some (v11, σ)
  else
    (gR σ l0 [0] 0).bind fun v4 =>
    (gR σ v4 [1] 0).bind fun v5 =>
    (gR σ l0 [0] 0).bind fun v6 =>
    (gI σ v6 [1] 6).bind fun v7 =>
    (cT σ v5 31).bind fun b9 =>
    (J2_get v5 v7 σ).bind fun q8 =>
    (cT q8.2 q8.1 6).bind fun b10 =>
    some (q8.1, q8.2)
set_option maxHeartbeats 4000000 in
theorem sX0_law1 {γ : GP} (hγ : GOK γ) (l0 : Option Nat) (σ : Hp) (q : (Option Nat × Hp)) (h : X0_law1 l0 σ = some q) : Rn γ mX0_law1 yX0_law1 [va_rf l0] (σ, .inr (some (va_rf q.1)), q.2) := by
  refine J_m hγ ykX0_law1 rfl [(1, va_rf l0)] (cats_r cats_nil) (Nat.le_of_ble_eq_true rfl) ?_
  show J γ mX0_law1 _ σ 0 [(0, 1, va_rf l0)] []
  unfold X0_law1 at h
  refine J_aload_n (i := 0) 0 1 dX0_law1_0 rfl rfl rfl ?_
  obtain ⟨v1, hv1, h⟩ := some_of_bind h
  refine J_gR 4 dX0_law1_1 rfl fk_x_133 hv1 ?_
  obtain ⟨v2, hv2, h⟩ := some_of_bind h
  refine J_gI 7 dX0_law1_4 rfl fk_z_266 hv2 ?_
  refine J_ic 8 dX0_law1_7 rfl (-1 : Int32) kic_m1 ?_
  refine J_icmp_ne 18 11 dX0_law1_8 (by decide) rfl (fun c3 => ?_) (fun c3 => ?_)
  · rw [if_neg c3] at h
    refine J_aload_n (i := 0) 0 19 dX0_law1_18 rfl rfl rfl ?_
    obtain ⟨v4, hv4, h⟩ := some_of_bind h
    refine J_gR 22 dX0_law1_19 rfl fk_x_133 hv4 ?_
    obtain ⟨v5, hv5, h⟩ := some_of_bind h
    refine J_gR 25 dX0_law1_22 rfl fk_z_265 hv5 ?_
    refine J_aload_n (i := 0) 0 26 dX0_law1_25 rfl rfl rfl ?_
    obtain ⟨v6, hv6, h⟩ := some_of_bind h
    refine J_gR 29 dX0_law1_26 rfl fk_x_133 hv6 ?_
    obtain ⟨v7, hv7, h⟩ := some_of_bind h
    refine J_gI 32 dX0_law1_29 rfl fk_z_266 hv7 ?_
    obtain ⟨b9, hb9, h⟩ := some_of_bind h
    obtain ⟨q8, hq8, h⟩ := some_of_bind h
    refine J_cVr 35 dX0_law1_32 rfl ykJ2_get (Or.inl q547) q548 q549 (Nat.le_of_ble_eq_true rfl) cs_nil (by decide) [.int v7] hb9 (by decide) rfl rfl rfl (sJ2_get hγ v5 v7 σ q8 hq8) ?_
    obtain ⟨b10, hb10, h⟩ := some_of_bind h
    refine J_cast hb10 (by decide) rfl q364 38 dX0_law1_35 rfl ?_
    exact J_aret rfl (Or.inl ⟨_, rfl⟩) dX0_law1_38 (retR h)
  · rw [if_pos c3] at h
    refine J_aload_n (i := 0) 0 12 dX0_law1_11 rfl rfl rfl ?_
    obtain ⟨v11, hv11, h⟩ := some_of_bind h
    refine J_gR 15 dX0_law1_12 rfl fk_z_267 hv11 ?_
    refine J_goto 38 dX0_law1_15 (by decide) ?_
    exact J_aret rfl (Or.inl ⟨_, rfl⟩) dX0_law1_38 (retR h)
abbrev mX0_costs : MP := (cX0_costs, "MissCurves", 3, (Option.some FieldType.int), 108, "costs", [])
theorem ykX0_costs : YK yX0_costs mX0_costs 2 := ⟨q534, q128, ⟨by decide, by decide⟩, by decide +kernel, Nat.le_of_ble_eq_true rfl, by decide, rfl, rfl⟩
def X0_costs (l0 : Option Nat) (l1 : Int32) (l2 : Int32) (σ : Hp) : Option (Int32 × Hp) :=
  (cT σ l0 0).bind fun b2 =>
  (X0_about l0 l1 l2 σ).bind fun q1 =>
  (cT q1 l0 0).bind fun b4 =>
  (X0_law1 l0  q1).bind fun q3 =>
  (gR q3.2 l0 [0] 6).bind fun v5 =>
  (cT q3.2 q3.1 6).bind fun b7 =>
  (X6_tells q3.1 (0 : Int32) v5 (1 : Int32) (99 : Int32) q3.2).bind fun q6 =>
  some (q6.1, q6.2)
set_option maxHeartbeats 4000000 in
theorem sX0_costs {γ : GP} (hγ : GOK γ) (l0 : Option Nat) (l1 : Int32) (l2 : Int32) (σ : Hp) (q : (Int32 × Hp)) (h : X0_costs l0 l1 l2 σ = some q) : Rn γ mX0_costs yX0_costs [va_rf l0, .int l1, .int l2] (σ, .inr (some (.int q.1)), q.2) := by
  refine J_m hγ ykX0_costs rfl [(1, va_rf l0), (1, .int l1), (1, .int l2)] (cats_r (cats_i (cats_i cats_nil))) (Nat.le_of_ble_eq_true rfl) ?_
  show J γ mX0_costs _ σ 0 [(0, 1, va_rf l0), (1, 1, .int l1), (2, 1, .int l2)] []
  unfold X0_costs at h
  refine J_aload_n (i := 0) 0 1 dX0_costs_0 rfl rfl rfl ?_
  refine J_iload_n (i := 1) 1 2 dX0_costs_1 rfl rfl rfl ?_
  refine J_iload_n (i := 2) 2 3 dX0_costs_2 rfl rfl rfl ?_
  obtain ⟨b2, hb2, h⟩ := some_of_bind h
  obtain ⟨q1, hq1, h⟩ := some_of_bind h
  refine J_cVv 6 dX0_costs_3 rfl ykX0_about (Or.inl q535) q537 qs4 (Nat.le_of_ble_eq_true rfl) cs_nil (by decide) [.int l1, .int l2] hb2 (by decide) rfl rfl rfl (sX0_about hγ l0 l1 l2 σ q1 hq1) ?_
  refine J_aload_n (i := 0) 0 7 dX0_costs_6 rfl rfl rfl ?_
  obtain ⟨b4, hb4, h⟩ := some_of_bind h
  obtain ⟨q3, hq3, h⟩ := some_of_bind h
  refine J_cVr 10 dX0_costs_7 rfl ykX0_law1 (Or.inl q543) q545 qs5 (Nat.le_of_ble_eq_true rfl) cs_nil (by decide) [] hb4 (by decide) rfl rfl rfl (sX0_law1 hγ l0  q1 q3 hq3) ?_
  refine J_ic 11 dX0_costs_10 rfl (0 : Int32) kic_0 ?_
  refine J_aload_n (i := 0) 0 12 dX0_costs_11 rfl rfl rfl ?_
  obtain ⟨v5, hv5, h⟩ := some_of_bind h
  refine J_gR 15 dX0_costs_12 rfl fk_z_230 hv5 ?_
  refine J_ic 16 dX0_costs_15 rfl (1 : Int32) kic_1 ?_
  refine J_bipush 18 dX0_costs_16 rfl (99 : Int32) kbp_99 ?_
  obtain ⟨b7, hb7, h⟩ := some_of_bind h
  obtain ⟨q6, hq6, h⟩ := some_of_bind h
  refine J_cVi 21 dX0_costs_18 rfl ykX6_tells (Or.inl q561) q562 q563 (Nat.le_of_ble_eq_true rfl) cs_nil (by decide) [.int (0 : Int32), va_rf v5, .int (1 : Int32), .int (99 : Int32)] hb7 (by decide) rfl rfl rfl (sX6_tells hγ q3.1 (0 : Int32) v5 (1 : Int32) (99 : Int32) q3.2 q6 hq6) ?_
  exact J_iret rfl dX0_costs_21 (retI h)
abbrev mX0_compare : MP := (cX0_compare, "MissCurves", 6, (Option.some FieldType.int), 109, "compare", [])
theorem ykX0_compare : YK yX0_compare mX0_compare 3 := ⟨q2053, q128, ⟨by decide, by decide⟩, by decide +kernel, Nat.le_of_ble_eq_true rfl, by decide, rfl, rfl⟩
theorem pk_z_268 {nm9 : String} : POK "MissCurves" nm9 293 [1] 6 .int := POK.one (by decide) rfl (Nat.le_of_ble_eq_true rfl) (Or.inr ⟨_, q305⟩) rfl (by decide +kernel) (Or.inl rfl)
def X0_compare (l0 : Option Nat) (l1 : Int32) (l2 : Int32) (l3 : Int32) (σ : Hp) : Option (Int32 × Hp) :=
  (cT σ l0 0).bind fun b2 =>
  (X0_isLaw l0 l1 σ).bind fun q1 =>
  if q1.1 = 0 then
    some ((-1 : Int32), q1.2)
  else
    (X0_isTenant l2 q1.2).bind fun q4 =>
    if q4.1 = 0 then
      some ((-1 : Int32), q4.2)
    else
      (X0_isKey l3 q4.2).bind fun q6 =>
      if q6.1 = 0 then
        some ((-1 : Int32), q6.2)
      else
        (gR q6.2 l0 [0] 0).bind fun v8 =>
        (gI q6.2 v8 [1] 6).bind fun v9 =>
        (gR q6.2 l0 [0] 0).bind fun v10 =>
        (pI q6.2 v10 [1] 6 l1).bind fun σ11 =>
        (cT σ11 l0 0).bind fun b13 =>
        (X0_costs l0 l2 l3 σ11).bind fun q12 =>
        (gR q12.2 l0 [0] 0).bind fun v14 =>
        (pI q12.2 v14 [1] 6 v9).bind fun σ15 =>
        some (q12.1, σ15)
set_option maxHeartbeats 4000000 in
theorem sX0_compare {γ : GP} (hγ : GOK γ) (l0 : Option Nat) (l1 : Int32) (l2 : Int32) (l3 : Int32) (σ : Hp) (q : (Int32 × Hp)) (h : X0_compare l0 l1 l2 l3 σ = some q) : Rn γ mX0_compare yX0_compare [va_rf l0, .int l1, .int l2, .int l3] (σ, .inr (some (.int q.1)), q.2) := by
  refine J_m hγ ykX0_compare rfl [(1, va_rf l0), (1, .int l1), (1, .int l2), (1, .int l3)] (cats_r (cats_i (cats_i (cats_i cats_nil)))) (Nat.le_of_ble_eq_true rfl) ?_
  show J γ mX0_compare _ σ 0 [(0, 1, va_rf l0), (1, 1, .int l1), (2, 1, .int l2), (3, 1, .int l3)] []
  unfold X0_compare at h
  refine J_aload_n (i := 0) 0 1 dX0_compare_0 rfl rfl rfl ?_
  refine J_iload_n (i := 1) 1 2 dX0_compare_1 rfl rfl rfl ?_
  obtain ⟨b2, hb2, h⟩ := some_of_bind h
  obtain ⟨q1, hq1, h⟩ := some_of_bind h
  refine J_cVi 5 dX0_compare_2 rfl ykX0_isLaw (Or.inl q1568) q1570 qs21 (Nat.le_of_ble_eq_true rfl) cs_nil (by decide) [.int l1] hb2 (by decide) rfl rfl rfl (sX0_isLaw hγ l0 l1 σ q1 hq1) ?_
  refine J_if_eq 22 8 dX0_compare_5 (by decide) rfl (fun c3 => ?_) (fun c3 => ?_)
  · rw [if_pos c3] at h
    refine J_ic 23 dX0_compare_22 rfl (-1 : Int32) kic_m1 ?_
    exact J_iret rfl dX0_compare_23 (retI h)
  · rw [if_neg c3] at h
    refine J_iload_n (i := 2) 2 9 dX0_compare_8 rfl rfl rfl ?_
    obtain ⟨q4, hq4, h⟩ := some_of_bind h
    refine J_cSi 12 dX0_compare_9 rfl ykX0_isTenant (Or.inl q491) q492 (Nat.le_of_ble_eq_true rfl) cs_nil (by decide) [.int l2] rfl rfl (sX0_isTenant hγ l2 q1.2 q4 hq4) ?_
    refine J_if_eq 22 15 dX0_compare_12 (by decide) rfl (fun c5 => ?_) (fun c5 => ?_)
    · rw [if_pos c5] at h
      refine J_ic 23 dX0_compare_22 rfl (-1 : Int32) kic_m1 ?_
      exact J_iret rfl dX0_compare_23 (retI h)
    · rw [if_neg c5] at h
      refine J_iload_n (i := 3) 3 16 dX0_compare_15 rfl rfl rfl ?_
      obtain ⟨q6, hq6, h⟩ := some_of_bind h
      refine J_cSi 19 dX0_compare_16 rfl ykX0_isKey (Or.inl q513) q514 (Nat.le_of_ble_eq_true rfl) cs_nil (by decide) [.int l3] rfl rfl (sX0_isKey hγ l3 q4.2 q6 hq6) ?_
      refine J_if_ne 24 22 dX0_compare_19 (by decide) rfl (fun c7 => ?_) (fun c7 => ?_)
      · rw [if_neg c7] at h
        refine J_aload_n (i := 0) 0 25 dX0_compare_24 rfl rfl rfl ?_
        obtain ⟨v8, hv8, h⟩ := some_of_bind h
        refine J_gR 28 dX0_compare_25 rfl fk_x_133 hv8 ?_
        obtain ⟨v9, hv9, h⟩ := some_of_bind h
        refine J_gI 31 dX0_compare_28 rfl fk_z_266 hv9 ?_
        refine J_istore (i := 4) 33 [(4, 1, .int v9), (0, 1, va_rf l0), (1, 1, .int l1), (2, 1, .int l2), (3, 1, .int l3)] dX0_compare_31 rfl (Nat.le_of_ble_eq_true rfl) rfl ?_
        refine J_aload_n (i := 0) 1 34 dX0_compare_33 rfl rfl rfl ?_
        obtain ⟨v10, hv10, h⟩ := some_of_bind h
        refine J_gR 37 dX0_compare_34 rfl fk_x_133 hv10 ?_
        refine J_iload_n (i := 1) 2 38 dX0_compare_37 rfl rfl rfl ?_
        obtain ⟨σ11, hσ11, h⟩ := some_of_bind h
        refine J_pI 41 dX0_compare_38 rfl pk_z_268 hσ11 ?_
        refine J_aload_n (i := 0) 1 42 dX0_compare_41 rfl rfl rfl ?_
        refine J_iload_n (i := 2) 3 43 dX0_compare_42 rfl rfl rfl ?_
        refine J_iload_n (i := 3) 4 44 dX0_compare_43 rfl rfl rfl ?_
        obtain ⟨b13, hb13, h⟩ := some_of_bind h
        obtain ⟨q12, hq12, h⟩ := some_of_bind h
        refine J_cVi 47 dX0_compare_44 rfl ykX0_costs (Or.inl q531) q533 qs3 (Nat.le_of_ble_eq_true rfl) cs_nil (by decide) [.int l2, .int l3] hb13 (by decide) rfl rfl rfl (sX0_costs hγ l0 l2 l3 σ11 q12 hq12) ?_
        refine J_istore (i := 5) 49 [(5, 1, .int q12.1), (4, 1, .int v9), (0, 1, va_rf l0), (1, 1, .int l1), (2, 1, .int l2), (3, 1, .int l3)] dX0_compare_47 rfl (Nat.le_of_ble_eq_true rfl) rfl ?_
        refine J_aload_n (i := 0) 2 50 dX0_compare_49 rfl rfl rfl ?_
        obtain ⟨v14, hv14, h⟩ := some_of_bind h
        refine J_gR 53 dX0_compare_50 rfl fk_x_133 hv14 ?_
        refine J_iload (i := 4) 1 55 dX0_compare_53 rfl rfl ?_
        obtain ⟨σ15, hσ15, h⟩ := some_of_bind h
        refine J_pI 58 dX0_compare_55 rfl pk_z_268 hσ15 ?_
        refine J_iload (i := 5) 0 60 dX0_compare_58 rfl rfl ?_
        exact J_iret rfl dX0_compare_60 (retI h)
      · rw [if_pos c7] at h
        refine J_ic 23 dX0_compare_22 rfl (-1 : Int32) kic_m1 ?_
        exact J_iret rfl dX0_compare_23 (retI h)
abbrev mX0_term : MP := (cX0_term, "MissCurves", 2, (Option.some FieldType.int), 1, "term", [])
theorem ykX0_term : YK yX0_term mX0_term 1 := ⟨q640, q128, ⟨by decide, by decide⟩, by decide +kernel, Nat.le_of_ble_eq_true rfl, by decide, rfl, rfl⟩
def X0_term (l0 : Option Nat) (l1 : Int32) (σ : Hp) : Option (Int32 × Hp) :=
  if l1 = 0 then
    (cT σ l0 0).bind fun b6 =>
    (X0_books l0  σ).bind fun q5 =>
    (gI q5.2 q5.1 [2] 1).bind fun v7 =>
    some (v7, q5.2)
  else
    (gR σ l0 [0] 0).bind fun v2 =>
    (gR σ v2 [1] 1).bind fun v3 =>
    (aI 0 σ v3 l1).bind fun v4 =>
    some (v4, σ)
set_option maxHeartbeats 4000000 in
theorem sX0_term {γ : GP} (hγ : GOK γ) (l0 : Option Nat) (l1 : Int32) (σ : Hp) (q : (Int32 × Hp)) (h : X0_term l0 l1 σ = some q) : Rn γ mX0_term yX0_term [va_rf l0, .int l1] (σ, .inr (some (.int q.1)), q.2) := by
  refine J_m hγ ykX0_term rfl [(1, va_rf l0), (1, .int l1)] (cats_r (cats_i cats_nil)) (Nat.le_of_ble_eq_true rfl) ?_
  show J γ mX0_term _ σ 0 [(0, 1, va_rf l0), (1, 1, .int l1)] []
  unfold X0_term at h
  refine J_iload_n (i := 1) 1 1 dX0_term_0 rfl rfl rfl ?_
  refine J_if_ne 14 4 dX0_term_1 (by decide) rfl (fun c1 => ?_) (fun c1 => ?_)
  · rw [if_neg c1] at h
    refine J_aload_n (i := 0) 0 15 dX0_term_14 rfl rfl rfl ?_
    obtain ⟨v2, hv2, h⟩ := some_of_bind h
    refine J_gR 18 dX0_term_15 rfl fk_x_133 hv2 ?_
    obtain ⟨v3, hv3, h⟩ := some_of_bind h
    refine J_gR 21 dX0_term_18 rfl fk_z_233 hv3 ?_
    refine J_iload_n (i := 1) 1 22 dX0_term_21 rfl rfl rfl ?_
    obtain ⟨v4, hv4, h⟩ := some_of_bind h
    refine J_iald 23 dX0_term_22 rfl hv4 ?_
    exact J_iret rfl dX0_term_23 (retI h)
  · rw [if_pos c1] at h
    refine J_aload_n (i := 0) 0 5 dX0_term_4 rfl rfl rfl ?_
    obtain ⟨b6, hb6, h⟩ := some_of_bind h
    obtain ⟨q5, hq5, h⟩ := some_of_bind h
    refine J_cVr 8 dX0_term_5 rfl ykX0_books (Or.inl q499) q501 qs2 (Nat.le_of_ble_eq_true rfl) cs_nil (by decide) [] hb6 (by decide) rfl rfl rfl (sX0_books hγ l0  σ q5 hq5) ?_
    obtain ⟨v7, hv7, h⟩ := some_of_bind h
    refine J_gI 11 dX0_term_8 rfl fk_z_232 hv7 ?_
    refine J_goto 23 dX0_term_11 (by decide) ?_
    exact J_iret rfl dX0_term_23 (retI h)
abbrev mX0_count : MP := (cX0_count, "MissCurves", 2, (Option.some FieldType.int), 2, "count", [])
theorem ykX0_count : YK yX0_count mX0_count 1 := ⟨q2189, q128, ⟨by decide, by decide⟩, by decide +kernel, Nat.le_of_ble_eq_true rfl, by decide, rfl, rfl⟩
theorem fk_z_269 : FOK "MissCurves" 261 [1] 4 isI := FOK.one (by decide) rfl (Nat.le_of_ble_eq_true rfl) (Or.inr ⟨_, q301⟩) rfl
theorem fk_z_270 : FOK "MissCurves" 126 [4] 1 isI := FOK.one (by decide) rfl (Nat.le_of_ble_eq_true rfl) (Or.inr ⟨_, q334⟩) rfl
def X0_count (l0 : Option Nat) (l1 : Int32) (σ : Hp) : Option (Int32 × Hp) :=
  if l1 = (0 : Int32) then
    (gR σ l0 [0] 0).bind fun v2 =>
    (gI σ v2 [1] 4).bind fun v3 =>
    some (v3, σ)
  else
  if l1 = (1 : Int32) then
    (gR σ l0 [0] 0).bind fun v5 =>
    (gI σ v5 [1] 5).bind fun v6 =>
    some (v6, σ)
  else
  if l1 = (2 : Int32) then
    (gR σ l0 [0] 0).bind fun v8 =>
    (gR σ v8 [1] 0).bind fun v9 =>
    (cT σ v9 31).bind fun b11 =>
    (J2_size v9  σ).bind fun q10 =>
    some (q10.1, q10.2)
  else
  if l1 = (3 : Int32) then
    (gR σ l0 [0] 2).bind fun v13 =>
    (gI σ v13 [4] 1).bind fun v14 =>
    some (v14, σ)
  else
  if l1 = (4 : Int32) then
    (gI σ l0 [0] 15).bind fun v16 =>
    some (v16, σ)
  else
  if l1 = (5 : Int32) then
    (gR σ l0 [0] 9).bind fun v18 =>
    (aI 0 σ v18 (1 : Int32)).bind fun v19 =>
    some (v19, σ)
  else
  if l1 = (6 : Int32) then
    (gR σ l0 [0] 9).bind fun v21 =>
    (aI 0 σ v21 (2 : Int32)).bind fun v22 =>
    some (v22, σ)
  else
  if l1 = (7 : Int32) then
    (gR σ l0 [0] 9).bind fun v24 =>
    (aI 0 σ v24 (3 : Int32)).bind fun v25 =>
    some (v25, σ)
  else
  if l1 = (8 : Int32) then
    (gR σ l0 [0] 9).bind fun v27 =>
    (aI 0 σ v27 (5 : Int32)).bind fun v28 =>
    some (v28, σ)
  else
  if l1 = (9 : Int32) then
    (gR σ l0 [0] 9).bind fun v30 =>
    (aI 0 σ v30 (6 : Int32)).bind fun v31 =>
    some (v31, σ)
  else
  if l1 = (10 : Int32) then
    (gR σ l0 [0] 0).bind fun v33 =>
    (gI σ v33 [1] 6).bind fun v34 =>
    some (v34, σ)
  else
  (X0_in l1.toInt64 (11 : Int64) (14 : Int64) σ).bind fun q35 =>
  if q35.1 = 0 then
    some ((-1 : Int32), q35.2)
  else
    (cT q35.2 l0 0).bind fun b38 =>
    (X0_term l0 (l1 - (11 : Int32)) q35.2).bind fun q37 =>
    some (q37.1, q37.2)
set_option maxHeartbeats 4000000 in
theorem sX0_count {γ : GP} (hγ : GOK γ) (l0 : Option Nat) (l1 : Int32) (σ : Hp) (q : (Int32 × Hp)) (h : X0_count l0 l1 σ = some q) : Rn γ mX0_count yX0_count [va_rf l0, .int l1] (σ, .inr (some (.int q.1)), q.2) := by
  refine J_m hγ ykX0_count rfl [(1, va_rf l0), (1, .int l1)] (cats_r (cats_i cats_nil)) (Nat.le_of_ble_eq_true rfl) ?_
  show J γ mX0_count _ σ 0 [(0, 1, va_rf l0), (1, 1, .int l1)] []
  unfold X0_count at h
  refine J_iload_n (i := 1) 1 1 dX0_count_0 rfl rfl rfl ?_
  rcases Classical.em (l1 = (0 : Int32)) with c1 | c1
  · rw [if_pos c1] at h
    refine J_tsC c1 60 dX0_count_1 (by decide) (by decide) rfl (by decide) ?_
    refine J_aload_n (i := 0) 0 61 dX0_count_60 rfl rfl rfl ?_
    obtain ⟨v2, hv2, h⟩ := some_of_bind h
    refine J_gR 64 dX0_count_61 rfl fk_x_133 hv2 ?_
    obtain ⟨v3, hv3, h⟩ := some_of_bind h
    refine J_gI 67 dX0_count_64 rfl fk_z_269 hv3 ?_
    refine J_goto 192 dX0_count_67 (by decide) ?_
    exact J_iret rfl dX0_count_192 (retI h)
  · rw [if_neg c1] at h
    rcases Classical.em (l1 = (1 : Int32)) with c4 | c4
    · rw [if_pos c4] at h
      refine J_tsC c4 70 dX0_count_1 (by decide) (by decide) rfl (by decide) ?_
      refine J_aload_n (i := 0) 0 71 dX0_count_70 rfl rfl rfl ?_
      obtain ⟨v5, hv5, h⟩ := some_of_bind h
      refine J_gR 74 dX0_count_71 rfl fk_x_133 hv5 ?_
      obtain ⟨v6, hv6, h⟩ := some_of_bind h
      refine J_gI 77 dX0_count_74 rfl fk_z_234 hv6 ?_
      refine J_goto 192 dX0_count_77 (by decide) ?_
      exact J_iret rfl dX0_count_192 (retI h)
    · rw [if_neg c4] at h
      rcases Classical.em (l1 = (2 : Int32)) with c7 | c7
      · rw [if_pos c7] at h
        refine J_tsC c7 80 dX0_count_1 (by decide) (by decide) rfl (by decide) ?_
        refine J_aload_n (i := 0) 0 81 dX0_count_80 rfl rfl rfl ?_
        obtain ⟨v8, hv8, h⟩ := some_of_bind h
        refine J_gR 84 dX0_count_81 rfl fk_x_133 hv8 ?_
        obtain ⟨v9, hv9, h⟩ := some_of_bind h
        refine J_gR 87 dX0_count_84 rfl fk_z_265 hv9 ?_
        obtain ⟨b11, hb11, h⟩ := some_of_bind h
        obtain ⟨q10, hq10, h⟩ := some_of_bind h
        refine J_cVi 90 dX0_count_87 rfl ykJ2_size (Or.inl q1046) q1047 q1048 (Nat.le_of_ble_eq_true rfl) cs_nil (by decide) [] hb11 (by decide) rfl rfl rfl (sJ2_size hγ v9  σ q10 hq10) ?_
        refine J_goto 192 dX0_count_90 (by decide) ?_
        exact J_iret rfl dX0_count_192 (retI h)
      · rw [if_neg c7] at h
        rcases Classical.em (l1 = (3 : Int32)) with c12 | c12
        · rw [if_pos c12] at h
          refine J_tsC c12 93 dX0_count_1 (by decide) (by decide) rfl (by decide) ?_
          refine J_aload_n (i := 0) 0 94 dX0_count_93 rfl rfl rfl ?_
          obtain ⟨v13, hv13, h⟩ := some_of_bind h
          refine J_gR 97 dX0_count_94 rfl fk_z_253 hv13 ?_
          obtain ⟨v14, hv14, h⟩ := some_of_bind h
          refine J_gI 100 dX0_count_97 rfl fk_z_270 hv14 ?_
          refine J_goto 192 dX0_count_100 (by decide) ?_
          exact J_iret rfl dX0_count_192 (retI h)
        · rw [if_neg c12] at h
          rcases Classical.em (l1 = (4 : Int32)) with c15 | c15
          · rw [if_pos c15] at h
            refine J_tsC c15 103 dX0_count_1 (by decide) (by decide) rfl (by decide) ?_
            refine J_aload_n (i := 0) 0 104 dX0_count_103 rfl rfl rfl ?_
            obtain ⟨v16, hv16, h⟩ := some_of_bind h
            refine J_gI 107 dX0_count_104 rfl fk_z_257 hv16 ?_
            refine J_goto 192 dX0_count_107 (by decide) ?_
            exact J_iret rfl dX0_count_192 (retI h)
          · rw [if_neg c15] at h
            rcases Classical.em (l1 = (5 : Int32)) with c17 | c17
            · rw [if_pos c17] at h
              refine J_tsC c17 110 dX0_count_1 (by decide) (by decide) rfl (by decide) ?_
              refine J_aload_n (i := 0) 0 111 dX0_count_110 rfl rfl rfl ?_
              obtain ⟨v18, hv18, h⟩ := some_of_bind h
              refine J_gR 114 dX0_count_111 rfl fk_z_237 hv18 ?_
              refine J_ic 115 dX0_count_114 rfl (1 : Int32) kic_1 ?_
              obtain ⟨v19, hv19, h⟩ := some_of_bind h
              refine J_iald 116 dX0_count_115 rfl hv19 ?_
              refine J_goto 192 dX0_count_116 (by decide) ?_
              exact J_iret rfl dX0_count_192 (retI h)
            · rw [if_neg c17] at h
              rcases Classical.em (l1 = (6 : Int32)) with c20 | c20
              · rw [if_pos c20] at h
                refine J_tsC c20 119 dX0_count_1 (by decide) (by decide) rfl (by decide) ?_
                refine J_aload_n (i := 0) 0 120 dX0_count_119 rfl rfl rfl ?_
                obtain ⟨v21, hv21, h⟩ := some_of_bind h
                refine J_gR 123 dX0_count_120 rfl fk_z_237 hv21 ?_
                refine J_ic 124 dX0_count_123 rfl (2 : Int32) kic_2 ?_
                obtain ⟨v22, hv22, h⟩ := some_of_bind h
                refine J_iald 125 dX0_count_124 rfl hv22 ?_
                refine J_goto 192 dX0_count_125 (by decide) ?_
                exact J_iret rfl dX0_count_192 (retI h)
              · rw [if_neg c20] at h
                rcases Classical.em (l1 = (7 : Int32)) with c23 | c23
                · rw [if_pos c23] at h
                  refine J_tsC c23 128 dX0_count_1 (by decide) (by decide) rfl (by decide) ?_
                  refine J_aload_n (i := 0) 0 129 dX0_count_128 rfl rfl rfl ?_
                  obtain ⟨v24, hv24, h⟩ := some_of_bind h
                  refine J_gR 132 dX0_count_129 rfl fk_z_237 hv24 ?_
                  refine J_ic 133 dX0_count_132 rfl (3 : Int32) kic_3 ?_
                  obtain ⟨v25, hv25, h⟩ := some_of_bind h
                  refine J_iald 134 dX0_count_133 rfl hv25 ?_
                  refine J_goto 192 dX0_count_134 (by decide) ?_
                  exact J_iret rfl dX0_count_192 (retI h)
                · rw [if_neg c23] at h
                  rcases Classical.em (l1 = (8 : Int32)) with c26 | c26
                  · rw [if_pos c26] at h
                    refine J_tsC c26 137 dX0_count_1 (by decide) (by decide) rfl (by decide) ?_
                    refine J_aload_n (i := 0) 0 138 dX0_count_137 rfl rfl rfl ?_
                    obtain ⟨v27, hv27, h⟩ := some_of_bind h
                    refine J_gR 141 dX0_count_138 rfl fk_z_237 hv27 ?_
                    refine J_ic 142 dX0_count_141 rfl (5 : Int32) kic_5 ?_
                    obtain ⟨v28, hv28, h⟩ := some_of_bind h
                    refine J_iald 143 dX0_count_142 rfl hv28 ?_
                    refine J_goto 192 dX0_count_143 (by decide) ?_
                    exact J_iret rfl dX0_count_192 (retI h)
                  · rw [if_neg c26] at h
                    rcases Classical.em (l1 = (9 : Int32)) with c29 | c29
                    · rw [if_pos c29] at h
                      refine J_tsC c29 146 dX0_count_1 (by decide) (by decide) rfl (by decide) ?_
                      refine J_aload_n (i := 0) 0 147 dX0_count_146 rfl rfl rfl ?_
                      obtain ⟨v30, hv30, h⟩ := some_of_bind h
                      refine J_gR 150 dX0_count_147 rfl fk_z_237 hv30 ?_
                      refine J_bipush 152 dX0_count_150 rfl (6 : Int32) kbp_6 ?_
                      obtain ⟨v31, hv31, h⟩ := some_of_bind h
                      refine J_iald 153 dX0_count_152 rfl hv31 ?_
                      refine J_goto 192 dX0_count_153 (by decide) ?_
                      exact J_iret rfl dX0_count_192 (retI h)
                    · rw [if_neg c29] at h
                      rcases Classical.em (l1 = (10 : Int32)) with c32 | c32
                      · rw [if_pos c32] at h
                        refine J_tsC c32 156 dX0_count_1 (by decide) (by decide) rfl (by decide) ?_
                        refine J_aload_n (i := 0) 0 157 dX0_count_156 rfl rfl rfl ?_
                        obtain ⟨v33, hv33, h⟩ := some_of_bind h
                        refine J_gR 160 dX0_count_157 rfl fk_x_133 hv33 ?_
                        obtain ⟨v34, hv34, h⟩ := some_of_bind h
                        refine J_gI 163 dX0_count_160 rfl fk_z_266 hv34 ?_
                        refine J_goto 192 dX0_count_163 (by decide) ?_
                        exact J_iret rfl dX0_count_192 (retI h)
                      · rw [if_neg c32] at h
                        refine J_tsOut 166 dX0_count_1 (by have a0 := lv_neT c1 (a := 0) (by decide); have a1 := lv_neT c4 (a := 1) (by decide); have a2 := lv_neT c7 (a := 2) (by decide); have a3 := lv_neT c12 (a := 3) (by decide); have a4 := lv_neT c15 (a := 4) (by decide); have a5 := lv_neT c17 (a := 5) (by decide); have a6 := lv_neT c20 (a := 6) (by decide); have a7 := lv_neT c23 (a := 7) (by decide); have a8 := lv_neT c26 (a := 8) (by decide); have a9 := lv_neT c29 (a := 9) (by decide); have a10 := lv_neT c32 (a := 10) (by decide); omega) (by decide) ?_
                        refine J_iload_n (i := 1) 1 167 dX0_count_166 rfl rfl rfl ?_
                        refine J_i2l 168 dX0_count_167 rfl ?_
                        refine J_ldc2 (v := (11 : Int64)) 171 dX0_count_168 rfl q2190 ?_
                        refine J_ldc2 (v := (14 : Int64)) 174 dX0_count_171 rfl q2191 ?_
                        obtain ⟨q35, hq35, h⟩ := some_of_bind h
                        refine J_cSi 177 dX0_count_174 rfl ykX0_in (Or.inl q484) q485 (Nat.le_of_ble_eq_true rfl) cs_nil (by decide) [.long l1.toInt64, .long (11 : Int64), .long (14 : Int64)] rfl rfl (sX0_in hγ l1.toInt64 (11 : Int64) (14 : Int64) σ q35 hq35) ?_
                        refine J_if_eq 191 180 dX0_count_177 (by decide) rfl (fun c36 => ?_) (fun c36 => ?_)
                        · rw [if_pos c36] at h
                          refine J_ic 192 dX0_count_191 rfl (-1 : Int32) kic_m1 ?_
                          exact J_iret rfl dX0_count_192 (retI h)
                        · rw [if_neg c36] at h
                          refine J_aload_n (i := 0) 0 181 dX0_count_180 rfl rfl rfl ?_
                          refine J_iload_n (i := 1) 1 182 dX0_count_181 rfl rfl rfl ?_
                          refine J_bipush 184 dX0_count_182 rfl (11 : Int32) kbp_11 ?_
                          refine J_isub 185 dX0_count_184 rfl ?_
                          obtain ⟨b38, hb38, h⟩ := some_of_bind h
                          obtain ⟨q37, hq37, h⟩ := some_of_bind h
                          refine J_cVi 188 dX0_count_185 rfl ykX0_term (Or.inl q637) q639 qs8 (Nat.le_of_ble_eq_true rfl) cs_nil (by decide) [.int (l1 - (11 : Int32))] hb38 (by decide) rfl rfl rfl (sX0_term hγ l0 (l1 - (11 : Int32)) q35.2 q37 hq37) ?_
                          refine J_goto 192 dX0_count_188 (by decide) ?_
                          exact J_iret rfl dX0_count_192 (retI h)
abbrev mX0_isSize : MP := (cX0_isSize, "MissCurves", 1, (Option.some FieldType.boolean), 1, "isSize", [])
theorem ykX0_isSize : YK yX0_isSize mX0_isSize 1 := ⟨q1641, q128, ⟨by decide, by decide⟩, by decide +kernel, Nat.le_of_ble_eq_true rfl, by decide, rfl, rfl⟩
def X0_isSize (l0 : Int32) (σ : Hp) : Option (Int32 × Hp) :=
  (X0_in l0.toInt64 (0 : Int64) (24 : Int64) σ).bind fun q1 =>
  rZ q1.1 q1.2
set_option maxHeartbeats 4000000 in
theorem sX0_isSize {γ : GP} (hγ : GOK γ) (l0 : Int32) (σ : Hp) (q : (Int32 × Hp)) (h : X0_isSize l0 σ = some q) : Rn γ mX0_isSize yX0_isSize [.int l0] (σ, .inr (some (.int q.1)), q.2) := by
  refine J_m hγ ykX0_isSize rfl [(1, .int l0)] (cats_i cats_nil) (Nat.le_of_ble_eq_true rfl) ?_
  show J γ mX0_isSize _ σ 0 [(0, 1, .int l0)] []
  unfold X0_isSize at h
  refine J_iload_n (i := 0) 0 1 dX0_isSize_0 rfl rfl rfl ?_
  refine J_i2l 2 dX0_isSize_1 rfl ?_
  refine J_lconst 3 dX0_isSize_2 rfl (0 : Int64) rfl ?_
  refine J_ldc2 (v := (24 : Int64)) 6 dX0_isSize_3 rfl q1642 ?_
  obtain ⟨q1, hq1, h⟩ := some_of_bind h
  refine J_cSi 9 dX0_isSize_6 rfl ykX0_in (Or.inl q484) q485 (Nat.le_of_ble_eq_true rfl) cs_nil (by decide) [.long l0.toInt64, .long (0 : Int64), .long (24 : Int64)] rfl rfl (sX0_in hγ l0.toInt64 (0 : Int64) (24 : Int64) σ q1 hq1) ?_
  exact J_zret rfl (ite_some h).1 dX0_isSize_9 (retZ h)
abbrev mX0_drawn : MP := (cX0_drawn, "MissCurves", 3, (Option.some FieldType.int), 2, "drawn", [])
theorem ykX0_drawn : YK yX0_drawn mX0_drawn 2 := ⟨q2154, q128, ⟨by decide, by decide⟩, by decide +kernel, Nat.le_of_ble_eq_true rfl, by decide, rfl, rfl⟩
theorem fk_z_271 : FOK "MissCurves" 524 [0] 27 isI := FOK.one (by decide) rfl (Nat.le_of_ble_eq_true rfl) (Or.inl ⟨_, q413, Or.inl rfl⟩) rfl
theorem fk_z_272 : FOK "MissCurves" 114 [0] 26 isR := FOK.one (by decide) rfl (Nat.le_of_ble_eq_true rfl) (Or.inl ⟨_, q412, Or.inl rfl⟩) rfl
def X0_drawn (l0 : Option Nat) (l1 : Int32) (l2 : Int32) (σ : Hp) : Option (Int32 × Hp) :=
  (gI σ l0 [0] 27).bind fun v1 =>
  if v1 = 0 then
    some ((-1 : Int32), σ)
  else
    (X0_isTenant l1 σ).bind fun q3 =>
    if q3.1 = 0 then
      some ((-1 : Int32), q3.2)
    else
      (X0_isSize l2 q3.2).bind fun q5 =>
      if q5.1 = 0 then
        some ((-1 : Int32), q5.2)
      else
        (gR q5.2 l0 [0] 26).bind fun v7 =>
        (gR q5.2 v7 [2] 0).bind fun v8 =>
        (aR 7 q5.2 v8 l1).bind fun v9 =>
        (cT q5.2 v9 3).bind fun b11 =>
        (X3_misses v9 l2 q5.2).bind fun q10 =>
        some (q10.1, q10.2)
set_option maxHeartbeats 4000000 in
theorem sX0_drawn {γ : GP} (hγ : GOK γ) (l0 : Option Nat) (l1 : Int32) (l2 : Int32) (σ : Hp) (q : (Int32 × Hp)) (h : X0_drawn l0 l1 l2 σ = some q) : Rn γ mX0_drawn yX0_drawn [va_rf l0, .int l1, .int l2] (σ, .inr (some (.int q.1)), q.2) := by
  refine J_m hγ ykX0_drawn rfl [(1, va_rf l0), (1, .int l1), (1, .int l2)] (cats_r (cats_i (cats_i cats_nil))) (Nat.le_of_ble_eq_true rfl) ?_
  show J γ mX0_drawn _ σ 0 [(0, 1, va_rf l0), (1, 1, .int l1), (2, 1, .int l2)] []
  unfold X0_drawn at h
  refine J_aload_n (i := 0) 0 1 dX0_drawn_0 rfl rfl rfl ?_
  obtain ⟨v1, hv1, h⟩ := some_of_bind h
  refine J_gI 4 dX0_drawn_1 rfl fk_z_271 hv1 ?_
  refine J_if_eq 37 7 dX0_drawn_4 (by decide) rfl (fun c2 => ?_) (fun c2 => ?_)
  · rw [if_pos c2] at h
    refine J_ic 38 dX0_drawn_37 rfl (-1 : Int32) kic_m1 ?_
    exact J_iret rfl dX0_drawn_38 (retI h)
  · rw [if_neg c2] at h
    refine J_iload_n (i := 1) 1 8 dX0_drawn_7 rfl rfl rfl ?_
    obtain ⟨q3, hq3, h⟩ := some_of_bind h
    refine J_cSi 11 dX0_drawn_8 rfl ykX0_isTenant (Or.inl q491) q492 (Nat.le_of_ble_eq_true rfl) cs_nil (by decide) [.int l1] rfl rfl (sX0_isTenant hγ l1 σ q3 hq3) ?_
    refine J_if_eq 37 14 dX0_drawn_11 (by decide) rfl (fun c4 => ?_) (fun c4 => ?_)
    · rw [if_pos c4] at h
      refine J_ic 38 dX0_drawn_37 rfl (-1 : Int32) kic_m1 ?_
      exact J_iret rfl dX0_drawn_38 (retI h)
    · rw [if_neg c4] at h
      refine J_iload_n (i := 2) 2 15 dX0_drawn_14 rfl rfl rfl ?_
      obtain ⟨q5, hq5, h⟩ := some_of_bind h
      refine J_cSi 18 dX0_drawn_15 rfl ykX0_isSize (Or.inl q1639) q1640 (Nat.le_of_ble_eq_true rfl) cs_nil (by decide) [.int l2] rfl rfl (sX0_isSize hγ l2 q3.2 q5 hq5) ?_
      refine J_if_eq 37 21 dX0_drawn_18 (by decide) rfl (fun c6 => ?_) (fun c6 => ?_)
      · rw [if_pos c6] at h
        refine J_ic 38 dX0_drawn_37 rfl (-1 : Int32) kic_m1 ?_
        exact J_iret rfl dX0_drawn_38 (retI h)
      · rw [if_neg c6] at h
        refine J_aload_n (i := 0) 0 22 dX0_drawn_21 rfl rfl rfl ?_
        obtain ⟨v7, hv7, h⟩ := some_of_bind h
        refine J_gR 25 dX0_drawn_22 rfl fk_z_272 hv7 ?_
        obtain ⟨v8, hv8, h⟩ := some_of_bind h
        refine J_gR 28 dX0_drawn_25 rfl fk_x_135 hv8 ?_
        refine J_iload_n (i := 1) 1 29 dX0_drawn_28 rfl rfl rfl ?_
        obtain ⟨v9, hv9, h⟩ := some_of_bind h
        refine J_aald 7 (by decide) (by decide) rfl 30 dX0_drawn_29 rfl hv9 ?_
        refine J_iload_n (i := 2) 2 31 dX0_drawn_30 rfl rfl rfl ?_
        obtain ⟨b11, hb11, h⟩ := some_of_bind h
        obtain ⟨q10, hq10, h⟩ := some_of_bind h
        refine J_cVi 34 dX0_drawn_31 rfl ykX3_misses (Or.inl q1643) q1644 q1645 (Nat.le_of_ble_eq_true rfl) cs_nil (by decide) [.int l2] hb11 (by decide) rfl rfl rfl (sX3_misses hγ v9 l2 q5.2 q10 hq10) ?_
        refine J_goto 38 dX0_drawn_34 (by decide) ?_
        exact J_iret rfl dX0_drawn_38 (retI h)
abbrev mX0_dropNow : MP := (cX0_dropNow, "MissCurves", 4, (Option.some FieldType.int), 4, "dropNow", [])
theorem ykX0_dropNow : YK yX0_dropNow mX0_dropNow 2 := ⟨q1608, q128, ⟨by decide, by decide⟩, by decide +kernel, Nat.le_of_ble_eq_true rfl, by decide, rfl, rfl⟩
def X0_dropNow (l0 : Option Nat) (l1 : Int32) (l2 : Int32) (σ : Hp) : Option (Int32 × Hp) :=
  (X0_isTenant l1 σ).bind fun q1 =>
  if q1.1 = 0 then
    some ((-1 : Int32), q1.2)
  else
    (X0_isKey l2 q1.2).bind fun q3 =>
    if q3.1 = 0 then
      some ((-1 : Int32), q3.2)
    else
      (cT q3.2 l0 0).bind fun b6 =>
      (X0_book l0 l1 q3.2).bind fun q5 =>
      (cT q5.2 q5.1 3).bind fun b8 =>
      (X3_place q5.1 l2 q5.2).bind fun q7 =>
      if q7.1 = 0 then
        some ((-3 : Int32), q7.2)
      else
        (gR q7.2 l0 [0] 2).bind fun v10 =>
        (cT q7.2 l0 0).bind fun b12 =>
        (X0_books l0  q7.2).bind fun q11 =>
        (cT q11.2 v10 4).bind fun b14 =>
        (X4_append v10 q11.1 (2 : Int32) q11.2).bind fun q13 =>
        (cT q13 l0 0).bind fun b16 =>
        (X0_book l0 l1 q13).bind fun q15 =>
        (cT q15.2 q15.1 3).bind fun b18 =>
        (X3_drop q15.1 l2 q15.2).bind fun q17 =>
        some (q7.1, q17)
set_option maxHeartbeats 4000000 in
theorem sX0_dropNow {γ : GP} (hγ : GOK γ) (l0 : Option Nat) (l1 : Int32) (l2 : Int32) (σ : Hp) (q : (Int32 × Hp)) (h : X0_dropNow l0 l1 l2 σ = some q) : Rn γ mX0_dropNow yX0_dropNow [va_rf l0, .int l1, .int l2] (σ, .inr (some (.int q.1)), q.2) := by
  refine J_m hγ ykX0_dropNow rfl [(1, va_rf l0), (1, .int l1), (1, .int l2)] (cats_r (cats_i (cats_i cats_nil))) (Nat.le_of_ble_eq_true rfl) ?_
  show J γ mX0_dropNow _ σ 0 [(0, 1, va_rf l0), (1, 1, .int l1), (2, 1, .int l2)] []
  unfold X0_dropNow at h
  refine J_iload_n (i := 1) 1 1 dX0_dropNow_0 rfl rfl rfl ?_
  obtain ⟨q1, hq1, h⟩ := some_of_bind h
  refine J_cSi 4 dX0_dropNow_1 rfl ykX0_isTenant (Or.inl q491) q492 (Nat.le_of_ble_eq_true rfl) cs_nil (by decide) [.int l1] rfl rfl (sX0_isTenant hγ l1 σ q1 hq1) ?_
  refine J_if_eq 14 7 dX0_dropNow_4 (by decide) rfl (fun c2 => ?_) (fun c2 => ?_)
  · rw [if_pos c2] at h
    refine J_ic 15 dX0_dropNow_14 rfl (-1 : Int32) kic_m1 ?_
    exact J_iret rfl dX0_dropNow_15 (retI h)
  · rw [if_neg c2] at h
    refine J_iload_n (i := 2) 2 8 dX0_dropNow_7 rfl rfl rfl ?_
    obtain ⟨q3, hq3, h⟩ := some_of_bind h
    refine J_cSi 11 dX0_dropNow_8 rfl ykX0_isKey (Or.inl q513) q514 (Nat.le_of_ble_eq_true rfl) cs_nil (by decide) [.int l2] rfl rfl (sX0_isKey hγ l2 q1.2 q3 hq3) ?_
    refine J_if_ne 16 14 dX0_dropNow_11 (by decide) rfl (fun c4 => ?_) (fun c4 => ?_)
    · rw [if_neg c4] at h
      refine J_aload_n (i := 0) 0 17 dX0_dropNow_16 rfl rfl rfl ?_
      refine J_iload_n (i := 1) 1 18 dX0_dropNow_17 rfl rfl rfl ?_
      obtain ⟨b6, hb6, h⟩ := some_of_bind h
      obtain ⟨q5, hq5, h⟩ := some_of_bind h
      refine J_cVr 21 dX0_dropNow_18 rfl ykX0_book (Or.inl q495) q497 qs1 (Nat.le_of_ble_eq_true rfl) cs_nil (by decide) [.int l1] hb6 (by decide) rfl rfl rfl (sX0_book hγ l0 l1 q3.2 q5 hq5) ?_
      refine J_iload_n (i := 2) 2 22 dX0_dropNow_21 rfl rfl rfl ?_
      obtain ⟨b8, hb8, h⟩ := some_of_bind h
      obtain ⟨q7, hq7, h⟩ := some_of_bind h
      refine J_cVi 25 dX0_dropNow_22 rfl ykX3_place (Or.inl q517) q518 q519 (Nat.le_of_ble_eq_true rfl) cs_nil (by decide) [.int l2] hb8 (by decide) rfl rfl rfl (sX3_place hγ q5.1 l2 q5.2 q7 hq7) ?_
      refine J_istore_n (i := 3) 26 [(3, 1, .int q7.1), (0, 1, va_rf l0), (1, 1, .int l1), (2, 1, .int l2)] dX0_dropNow_25 rfl rfl (Nat.le_of_ble_eq_true rfl) rfl ?_
      refine J_iload_n (i := 3) 0 27 dX0_dropNow_26 rfl rfl rfl ?_
      refine J_if_ne 33 30 dX0_dropNow_27 (by decide) rfl (fun c9 => ?_) (fun c9 => ?_)
      · rw [if_neg c9] at h
        refine J_aload_n (i := 0) 1 34 dX0_dropNow_33 rfl rfl rfl ?_
        obtain ⟨v10, hv10, h⟩ := some_of_bind h
        refine J_gR 37 dX0_dropNow_34 rfl fk_z_253 hv10 ?_
        refine J_aload_n (i := 0) 1 38 dX0_dropNow_37 rfl rfl rfl ?_
        obtain ⟨b12, hb12, h⟩ := some_of_bind h
        obtain ⟨q11, hq11, h⟩ := some_of_bind h
        refine J_cVr 41 dX0_dropNow_38 rfl ykX0_books (Or.inl q499) q501 qs2 (Nat.le_of_ble_eq_true rfl) (cs_rf cs_nil) (by decide) [] hb12 (by decide) rfl rfl rfl (sX0_books hγ l0  q7.2 q11 hq11) ?_
        refine J_ic 42 dX0_dropNow_41 rfl (2 : Int32) kic_2 ?_
        obtain ⟨b14, hb14, h⟩ := some_of_bind h
        obtain ⟨q13, hq13, h⟩ := some_of_bind h
        refine J_cVv 45 dX0_dropNow_42 rfl ykX4_append (Or.inl q1580) q1581 q1582 (Nat.le_of_ble_eq_true rfl) cs_nil (by decide) [va_rf q11.1, .int (2 : Int32)] hb14 (by decide) rfl rfl rfl (sX4_append hγ v10 q11.1 (2 : Int32) q11.2 q13 hq13) ?_
        refine J_aload_n (i := 0) 1 46 dX0_dropNow_45 rfl rfl rfl ?_
        refine J_iload_n (i := 1) 2 47 dX0_dropNow_46 rfl rfl rfl ?_
        obtain ⟨b16, hb16, h⟩ := some_of_bind h
        obtain ⟨q15, hq15, h⟩ := some_of_bind h
        refine J_cVr 50 dX0_dropNow_47 rfl ykX0_book (Or.inl q495) q497 qs1 (Nat.le_of_ble_eq_true rfl) cs_nil (by decide) [.int l1] hb16 (by decide) rfl rfl rfl (sX0_book hγ l0 l1 q13 q15 hq15) ?_
        refine J_iload_n (i := 2) 3 51 dX0_dropNow_50 rfl rfl rfl ?_
        obtain ⟨b18, hb18, h⟩ := some_of_bind h
        obtain ⟨q17, hq17, h⟩ := some_of_bind h
        refine J_cVv 54 dX0_dropNow_51 rfl ykX3_drop (Or.inl q1609) q1610 q1611 (Nat.le_of_ble_eq_true rfl) cs_nil (by decide) [.int l2] hb18 (by decide) rfl rfl rfl (sX3_drop hγ q15.1 l2 q15.2 q17 hq17) ?_
        refine J_iload_n (i := 3) 0 55 dX0_dropNow_54 rfl rfl rfl ?_
        exact J_iret rfl dX0_dropNow_55 (retI h)
      · rw [if_pos c9] at h
        refine J_bipush 32 dX0_dropNow_30 rfl (-3 : Int32) kbp_m3 ?_
        exact J_iret rfl dX0_dropNow_32 (retI h)
    · rw [if_pos c4] at h
      refine J_ic 15 dX0_dropNow_14 rfl (-1 : Int32) kic_m1 ?_
      exact J_iret rfl dX0_dropNow_15 (retI h)
abbrev mX0_drop : MP := (cX0_drop, "MissCurves", 3, (Option.some FieldType.int), 5, "drop", [])
theorem ykX0_drop : YK yX0_drop mX0_drop 2 := ⟨q1604, q128, ⟨by decide, by decide⟩, by decide +kernel, Nat.le_of_ble_eq_true rfl, by decide, rfl, rfl⟩
def X0_drop (l0 : Option Nat) (l1 : Int32) (l2 : Int32) (σ : Hp) : Option (Int32 × Hp) :=
  (cT σ l0 0).bind fun b2 =>
  (X0_dropNow l0 l1 l2 σ).bind fun q1 =>
  (cT q1.2 l0 0).bind fun b4 =>
  (X0_tell l0 q1.1 q1.2).bind fun q3 =>
  some (q3.1, q3.2)
set_option maxHeartbeats 4000000 in
theorem sX0_drop {γ : GP} (hγ : GOK γ) (l0 : Option Nat) (l1 : Int32) (l2 : Int32) (σ : Hp) (q : (Int32 × Hp)) (h : X0_drop l0 l1 l2 σ = some q) : Rn γ mX0_drop yX0_drop [va_rf l0, .int l1, .int l2] (σ, .inr (some (.int q.1)), q.2) := by
  refine J_m hγ ykX0_drop rfl [(1, va_rf l0), (1, .int l1), (1, .int l2)] (cats_r (cats_i (cats_i cats_nil))) (Nat.le_of_ble_eq_true rfl) ?_
  show J γ mX0_drop _ σ 0 [(0, 1, va_rf l0), (1, 1, .int l1), (2, 1, .int l2)] []
  unfold X0_drop at h
  refine J_aload_n (i := 0) 0 1 dX0_drop_0 rfl rfl rfl ?_
  refine J_aload_n (i := 0) 0 2 dX0_drop_1 rfl rfl rfl ?_
  refine J_iload_n (i := 1) 1 3 dX0_drop_2 rfl rfl rfl ?_
  refine J_iload_n (i := 2) 2 4 dX0_drop_3 rfl rfl rfl ?_
  obtain ⟨b2, hb2, h⟩ := some_of_bind h
  obtain ⟨q1, hq1, h⟩ := some_of_bind h
  refine J_cVi 7 dX0_drop_4 rfl ykX0_dropNow (Or.inl q1605) q1607 qs24 (Nat.le_of_ble_eq_true rfl) (cs_rf cs_nil) (by decide) [.int l1, .int l2] hb2 (by decide) rfl rfl rfl (sX0_dropNow hγ l0 l1 l2 σ q1 hq1) ?_
  obtain ⟨b4, hb4, h⟩ := some_of_bind h
  obtain ⟨q3, hq3, h⟩ := some_of_bind h
  refine J_cVi 10 dX0_drop_7 rfl ykX0_tell (Or.inl q630) q632 qs7 (Nat.le_of_ble_eq_true rfl) cs_nil (by decide) [.int q1.1] hb4 (by decide) rfl rfl rfl (sX0_tell hγ l0 q1.1 q1.2 q3 hq3) ?_
  exact J_iret rfl dX0_drop_10 (retI h)
abbrev mX0_end : MP := (cX0_end, "MissCurves", 2, (Option.some FieldType.int), 1, "end", [])
theorem ykX0_end : YK yX0_end mX0_end 1 := ⟨q483, q128, ⟨by decide, by decide⟩, by decide +kernel, Nat.le_of_ble_eq_true rfl, by decide, rfl, rfl⟩
theorem pk_z_273 {nm9 : String} : POK "MissCurves" nm9 143 [0] 15 .int := POK.one (by decide) rfl (Nat.le_of_ble_eq_true rfl) (Or.inl ⟨_, q399, Or.inl rfl⟩) rfl (by decide +kernel) (Or.inl rfl)
def X0_end (l0 : Option Nat) (l1 : Int32) (σ : Hp) : Option (Int32 × Hp) :=
  (gI σ l0 [0] 15).bind fun v1 =>
  (X0_in l1.toInt64 (0 : Int64) v1.toInt64 σ).bind fun q2 =>
  if q2.1 = 0 then
    some ((-1 : Int32), q2.2)
  else
    (pI q2.2 l0 [0] 15 l1).bind fun σ4 =>
    some (l1, σ4)
set_option maxHeartbeats 4000000 in
theorem sX0_end {γ : GP} (hγ : GOK γ) (l0 : Option Nat) (l1 : Int32) (σ : Hp) (q : (Int32 × Hp)) (h : X0_end l0 l1 σ = some q) : Rn γ mX0_end yX0_end [va_rf l0, .int l1] (σ, .inr (some (.int q.1)), q.2) := by
  refine J_m hγ ykX0_end rfl [(1, va_rf l0), (1, .int l1)] (cats_r (cats_i cats_nil)) (Nat.le_of_ble_eq_true rfl) ?_
  show J γ mX0_end _ σ 0 [(0, 1, va_rf l0), (1, 1, .int l1)] []
  unfold X0_end at h
  refine J_iload_n (i := 1) 1 1 dX0_end_0 rfl rfl rfl ?_
  refine J_i2l 2 dX0_end_1 rfl ?_
  refine J_lconst 3 dX0_end_2 rfl (0 : Int64) rfl ?_
  refine J_aload_n (i := 0) 0 4 dX0_end_3 rfl rfl rfl ?_
  obtain ⟨v1, hv1, h⟩ := some_of_bind h
  refine J_gI 7 dX0_end_4 rfl fk_z_257 hv1 ?_
  refine J_i2l 8 dX0_end_7 rfl ?_
  obtain ⟨q2, hq2, h⟩ := some_of_bind h
  refine J_cSi 11 dX0_end_8 rfl ykX0_in (Or.inl q484) q485 (Nat.le_of_ble_eq_true rfl) cs_nil (by decide) [.long l1.toInt64, .long (0 : Int64), .long v1.toInt64] rfl rfl (sX0_in hγ l1.toInt64 (0 : Int64) v1.toInt64 σ q2 hq2) ?_
  refine J_if_ne 16 14 dX0_end_11 (by decide) rfl (fun c3 => ?_) (fun c3 => ?_)
  · rw [if_neg c3] at h
    refine J_aload_n (i := 0) 0 17 dX0_end_16 rfl rfl rfl ?_
    refine J_iload_n (i := 1) 1 18 dX0_end_17 rfl rfl rfl ?_
    obtain ⟨σ4, hσ4, h⟩ := some_of_bind h
    refine J_pI 21 dX0_end_18 rfl pk_z_273 hσ4 ?_
    refine J_iload_n (i := 1) 1 22 dX0_end_21 rfl rfl rfl ?_
    exact J_iret rfl dX0_end_22 (retI h)
  · rw [if_pos c3] at h
    refine J_ic 15 dX0_end_14 rfl (-1 : Int32) kic_m1 ?_
    exact J_iret rfl dX0_end_15 (retI h)
abbrev mX0_fault : MP := (cX0_fault, "MissCurves", 1, (Option.some FieldType.int), 0, "fault", [])
theorem ykX0_fault : YK yX0_fault mX0_fault 0 := ⟨q1563, q128, ⟨by decide, by decide⟩, by decide +kernel, Nat.le_of_ble_eq_true rfl, by decide, rfl, rfl⟩
theorem fk_z_274 : FOK "MissCurves" 75 [0] 11 isI := FOK.one (by decide) rfl (Nat.le_of_ble_eq_true rfl) (Or.inl ⟨_, q392, Or.inl rfl⟩) rfl
def X0_fault (l0 : Option Nat) (σ : Hp) : Option (Int32 × Hp) :=
  (gI σ l0 [0] 11).bind fun v1 =>
  some (v1, σ)
set_option maxHeartbeats 4000000 in
theorem sX0_fault {γ : GP} (hγ : GOK γ) (l0 : Option Nat) (σ : Hp) (q : (Int32 × Hp)) (h : X0_fault l0 σ = some q) : Rn γ mX0_fault yX0_fault [va_rf l0] (σ, .inr (some (.int q.1)), q.2) := by
  refine J_m hγ ykX0_fault rfl [(1, va_rf l0)] (cats_r cats_nil) (Nat.le_of_ble_eq_true rfl) ?_
  show J γ mX0_fault _ σ 0 [(0, 1, va_rf l0)] []
  unfold X0_fault at h
  refine J_aload_n (i := 0) 0 1 dX0_fault_0 rfl rfl rfl ?_
  obtain ⟨v1, hv1, h⟩ := some_of_bind h
  refine J_gI 4 dX0_fault_1 rfl fk_z_274 hv1 ?_
  exact J_iret rfl dX0_fault_4 (retI h)
abbrev mX0_four : MP := (cX0_four, "MissCurves", 3, (Option.none : Option FieldType), 0, "four", [])
theorem ykX0_four : YK yX0_four mX0_four 1 := ⟨q479, q128, ⟨by decide, by decide⟩, by decide +kernel, Nat.le_of_ble_eq_true rfl, by decide, rfl, rfl⟩
theorem kic_m8 : Int32.ofInt (-8) = (-8 : Int32) := by decide
def X0_four_c3 (l0 : Option Nat) (l1 : Int32)  : Nat → Int32 → Hp → Option Hp
  | 0, _, _ => none
  | n + 1, l2, σ =>
    if l2 < 0 then
      some σ
    else
      (gR σ l0 [0] 14).bind fun v2 =>
      (gI σ l0 [0] 15).bind fun v3 =>
      (sI 2 σ v2 v3 ((l1 >>> (l2 &&& 31)).toInt8.toInt32)).bind fun σ4 =>
      (gI σ4 l0 [0] 15).bind fun v5 =>
      (pI σ4 l0 [0] 15 (v5 + (1 : Int32))).bind fun σ6 =>
      X0_four_c3 l0 l1 n (l2 + (-8 : Int32)) σ6
set_option maxHeartbeats 4000000 in
theorem jX0_four_c3 {γ : GP} {σ0 : Hp} {q : Hp} (hγ : GOK γ) (l0 : Option Nat) (l1 : Int32)  : ∀ (n : Nat) (l2 : Int32) (σ : Hp), X0_four_c3 l0 l1 n l2 σ = some q → J γ mX0_four (σ0, .inr none, q) σ 3 [(0, 1, va_rf l0), (1, 1, .int l1), (2, 1, .int l2)] [] := by
  intro n
  induction n with
  | zero => intro l2 σ h; exact nomatch (show none = some q from h)
  | succ n ih =>
    intro l2 σ h
    rw [X0_four_c3] at h
    refine J_iload_n (i := 2) 2 4 dX0_four_3 rfl rfl rfl ?_
    refine J_if_lt 36 7 dX0_four_4 (by decide) rfl (fun c1 => ?_) (fun c1 => ?_)
    · rw [if_pos c1] at h
      exact J_vret rfl dX0_four_36 (retV h)
    · rw [if_neg c1] at h
      refine J_aload_n (i := 0) 0 8 dX0_four_7 rfl rfl rfl ?_
      obtain ⟨v2, hv2, h⟩ := some_of_bind h
      refine J_gR 11 dX0_four_8 rfl fk_z_258 hv2 ?_
      refine J_aload_n (i := 0) 0 12 dX0_four_11 rfl rfl rfl ?_
      obtain ⟨v3, hv3, h⟩ := some_of_bind h
      refine J_gI 15 dX0_four_12 rfl fk_z_257 hv3 ?_
      refine J_iload_n (i := 1) 1 16 dX0_four_15 rfl rfl rfl ?_
      refine J_iload_n (i := 2) 2 17 dX0_four_16 rfl rfl rfl ?_
      refine J_ishr 18 dX0_four_17 rfl ?_
      refine J_i2b 19 dX0_four_18 rfl ?_
      obtain ⟨σ4, hσ4, h⟩ := some_of_bind h
      refine J_bast 20 dX0_four_19 rfl hσ4 ?_
      refine J_aload_n (i := 0) 0 21 dX0_four_20 rfl rfl rfl ?_
      refine J_dupr 22 dX0_four_21 rfl ?_
      obtain ⟨v5, hv5, h⟩ := some_of_bind h
      refine J_gI 25 dX0_four_22 rfl fk_z_257 hv5 ?_
      refine J_ic 26 dX0_four_25 rfl (1 : Int32) kic_1 ?_
      refine J_iadd 27 dX0_four_26 rfl ?_
      obtain ⟨σ6, hσ6, h⟩ := some_of_bind h
      refine J_pI 30 dX0_four_27 rfl pk_z_273 hσ6 ?_
      refine J_iinc (i := 2) (v := l2 + (-8 : Int32)) 2 33 [(2, 1, .int (l2 + (-8 : Int32))), (0, 1, va_rf l0), (1, 1, .int l1)] dX0_four_30 rfl rfl (Nat.le_of_ble_eq_true rfl) (by rw [kic_m8]) rfl ?_
      refine J_goto 3 dX0_four_33 (by decide) ?_
      refine J.pick [1, 2, 0] rfl ?_
      exact ih (l2 + (-8 : Int32)) σ6 h
def X0_four (l0 : Option Nat) (l1 : Int32) (σ : Hp) : Option Hp :=
  X0_four_c3 l0 l1  FUEL (24 : Int32) σ
set_option maxHeartbeats 4000000 in
theorem sX0_four {γ : GP} (hγ : GOK γ) (l0 : Option Nat) (l1 : Int32) (σ : Hp) (q : Hp) (h : X0_four l0 l1 σ = some q) : Rn γ mX0_four yX0_four [va_rf l0, .int l1] (σ, .inr none, q) := by
  refine J_m hγ ykX0_four rfl [(1, va_rf l0), (1, .int l1)] (cats_r (cats_i cats_nil)) (Nat.le_of_ble_eq_true rfl) ?_
  show J γ mX0_four _ σ 0 [(0, 1, va_rf l0), (1, 1, .int l1)] []
  unfold X0_four at h
  refine J_bipush 2 dX0_four_0 rfl (24 : Int32) kbp_24 ?_
  refine J_istore_n (i := 2) 3 [(2, 1, .int (24 : Int32)), (0, 1, va_rf l0), (1, 1, .int l1)] dX0_four_2 rfl rfl (Nat.le_of_ble_eq_true rfl) rfl ?_
  refine J.pick [1, 2, 0] rfl ?_
  refine jX0_four_c3 hγ l0 l1  FUEL (24 : Int32) σ h
abbrev mX0_feed : MP := (cX0_feed, "MissCurves", 6, (Option.some FieldType.int), 1, "feed", [])
theorem ykX0_feed : YK yX0_feed mX0_feed 5 := ⟨q475, q128, ⟨by decide, by decide⟩, by decide +kernel, Nat.le_of_ble_eq_true rfl, by decide, rfl, rfl⟩
def X0_feed (l0 : Option Nat) (l1 : Int32) (l2 : Int32) (l3 : Int32) (l4 : Int32) (l5 : Int32) (σ : Hp) : Option (Int32 × Hp) :=
  (gI σ l0 [0] 15).bind fun v1 =>
  if (v1 + (20 : Int32)) ≤ (400 : Int32) then
    (cT σ l0 0).bind fun b4 =>
    (X0_four l0 l1 σ).bind fun q3 =>
    (cT q3 l0 0).bind fun b6 =>
    (X0_four l0 l2 q3).bind fun q5 =>
    (cT q5 l0 0).bind fun b8 =>
    (X0_four l0 l3 q5).bind fun q7 =>
    (cT q7 l0 0).bind fun b10 =>
    (X0_four l0 l4 q7).bind fun q9 =>
    (cT q9 l0 0).bind fun b12 =>
    (X0_four l0 l5 q9).bind fun q11 =>
    (gI q11 l0 [0] 15).bind fun v13 =>
    some (v13, q11)
  else
    some ((-1 : Int32), σ)
set_option maxHeartbeats 4000000 in
theorem sX0_feed {γ : GP} (hγ : GOK γ) (l0 : Option Nat) (l1 : Int32) (l2 : Int32) (l3 : Int32) (l4 : Int32) (l5 : Int32) (σ : Hp) (q : (Int32 × Hp)) (h : X0_feed l0 l1 l2 l3 l4 l5 σ = some q) : Rn γ mX0_feed yX0_feed [va_rf l0, .int l1, .int l2, .int l3, .int l4, .int l5] (σ, .inr (some (.int q.1)), q.2) := by
  refine J_m hγ ykX0_feed rfl [(1, va_rf l0), (1, .int l1), (1, .int l2), (1, .int l3), (1, .int l4), (1, .int l5)] (cats_r (cats_i (cats_i (cats_i (cats_i (cats_i cats_nil)))))) (Nat.le_of_ble_eq_true rfl) ?_
  show J γ mX0_feed _ σ 0 [(0, 1, va_rf l0), (1, 1, .int l1), (2, 1, .int l2), (3, 1, .int l3), (4, 1, .int l4), (5, 1, .int l5)] []
  unfold X0_feed at h
  refine J_aload_n (i := 0) 0 1 dX0_feed_0 rfl rfl rfl ?_
  obtain ⟨v1, hv1, h⟩ := some_of_bind h
  refine J_gI 4 dX0_feed_1 rfl fk_z_257 hv1 ?_
  refine J_bipush 6 dX0_feed_4 rfl (20 : Int32) kbp_20 ?_
  refine J_iadd 7 dX0_feed_6 rfl ?_
  refine J_sipush 10 dX0_feed_7 rfl (400 : Int32) ksp_400 ?_
  refine J_icmp_le 15 13 dX0_feed_10 (by decide) rfl (fun c2 => ?_) (fun c2 => ?_)
  · rw [if_pos c2] at h
    refine J_aload_n (i := 0) 0 16 dX0_feed_15 rfl rfl rfl ?_
    refine J_iload_n (i := 1) 1 17 dX0_feed_16 rfl rfl rfl ?_
    obtain ⟨b4, hb4, h⟩ := some_of_bind h
    obtain ⟨q3, hq3, h⟩ := some_of_bind h
    refine J_cVv 20 dX0_feed_17 rfl ykX0_four (Or.inl q476) q478 qs0 (Nat.le_of_ble_eq_true rfl) cs_nil (by decide) [.int l1] hb4 (by decide) rfl rfl rfl (sX0_four hγ l0 l1 σ q3 hq3) ?_
    refine J_aload_n (i := 0) 0 21 dX0_feed_20 rfl rfl rfl ?_
    refine J_iload_n (i := 2) 2 22 dX0_feed_21 rfl rfl rfl ?_
    obtain ⟨b6, hb6, h⟩ := some_of_bind h
    obtain ⟨q5, hq5, h⟩ := some_of_bind h
    refine J_cVv 25 dX0_feed_22 rfl ykX0_four (Or.inl q476) q478 qs0 (Nat.le_of_ble_eq_true rfl) cs_nil (by decide) [.int l2] hb6 (by decide) rfl rfl rfl (sX0_four hγ l0 l2 q3 q5 hq5) ?_
    refine J_aload_n (i := 0) 0 26 dX0_feed_25 rfl rfl rfl ?_
    refine J_iload_n (i := 3) 3 27 dX0_feed_26 rfl rfl rfl ?_
    obtain ⟨b8, hb8, h⟩ := some_of_bind h
    obtain ⟨q7, hq7, h⟩ := some_of_bind h
    refine J_cVv 30 dX0_feed_27 rfl ykX0_four (Or.inl q476) q478 qs0 (Nat.le_of_ble_eq_true rfl) cs_nil (by decide) [.int l3] hb8 (by decide) rfl rfl rfl (sX0_four hγ l0 l3 q5 q7 hq7) ?_
    refine J_aload_n (i := 0) 0 31 dX0_feed_30 rfl rfl rfl ?_
    refine J_iload (i := 4) 4 33 dX0_feed_31 rfl rfl ?_
    obtain ⟨b10, hb10, h⟩ := some_of_bind h
    obtain ⟨q9, hq9, h⟩ := some_of_bind h
    refine J_cVv 36 dX0_feed_33 rfl ykX0_four (Or.inl q476) q478 qs0 (Nat.le_of_ble_eq_true rfl) cs_nil (by decide) [.int l4] hb10 (by decide) rfl rfl rfl (sX0_four hγ l0 l4 q7 q9 hq9) ?_
    refine J_aload_n (i := 0) 0 37 dX0_feed_36 rfl rfl rfl ?_
    refine J_iload (i := 5) 5 39 dX0_feed_37 rfl rfl ?_
    obtain ⟨b12, hb12, h⟩ := some_of_bind h
    obtain ⟨q11, hq11, h⟩ := some_of_bind h
    refine J_cVv 42 dX0_feed_39 rfl ykX0_four (Or.inl q476) q478 qs0 (Nat.le_of_ble_eq_true rfl) cs_nil (by decide) [.int l5] hb12 (by decide) rfl rfl rfl (sX0_four hγ l0 l5 q9 q11 hq11) ?_
    refine J_aload_n (i := 0) 0 43 dX0_feed_42 rfl rfl rfl ?_
    obtain ⟨v13, hv13, h⟩ := some_of_bind h
    refine J_gI 46 dX0_feed_43 rfl fk_z_257 hv13 ?_
    exact J_iret rfl dX0_feed_46 (retI h)
  · rw [if_neg c2] at h
    refine J_ic 14 dX0_feed_13 rfl (-1 : Int32) kic_m1 ?_
    exact J_iret rfl dX0_feed_14 (retI h)
abbrev mX0_few : MP := (cX0_few, "MissCurves", 8, (Option.some FieldType.long), 1, "few", [])
theorem ykX0_few : YK yX0_few mX0_few 2 := ⟨q2046, q128, ⟨by decide, by decide⟩, by decide +kernel, Nat.le_of_ble_eq_true rfl, by decide, rfl, rfl⟩
def X0_few_c127 (l1 : Int32) (l3 : Option Nat)  : Nat → Int64 → Int32 → Hp → Option (Int64 × Hp)
  | 0, _, _, _ => none
  | n + 1, l5, l7, σ =>
    if l1 ≤ l7 then
      some (l5, σ)
    else
      (aL σ l3 l7).bind fun v2 =>
      X0_few_c127 l1 l3 n (l5 + v2) (l7 + (1 : Int32)) σ
set_option maxHeartbeats 4000000 in
theorem jX0_few_c127 {γ : GP} {σ0 : Hp} {q : (Int64 × Hp)} (hγ : GOK γ) (l1 : Int32) (l3 : Option Nat)  : ∀ (n : Nat) (l5 : Int64) (l7 : Int32) (σ : Hp), X0_few_c127 l1 l3 n l5 l7 σ = some q → J γ mX0_few (σ0, .inr (some (.long q.1)), q.2) σ 127 [(1, 1, .int l1), (3, 1, va_rf l3), (5, 2, .long l5), (7, 1, .int l7)] [] := by
  intro n
  induction n with
  | zero => intro l5 l7 σ h; exact nomatch (show none = some q from h)
  | succ n ih =>
    intro l5 l7 σ h
    rw [X0_few_c127] at h
    refine J_iload (i := 7) 3 129 dX0_few_127 rfl rfl ?_
    refine J_iload_n (i := 1) 0 130 dX0_few_129 rfl rfl rfl ?_
    refine J_icmp_ge 148 133 dX0_few_130 (by decide) rfl (fun c1 => ?_) (fun c1 => ?_)
    · rw [if_pos c1] at h
      refine J_lload (i := 5) 2 150 dX0_few_148 rfl rfl ?_
      exact J_lret rfl dX0_few_150 (retL h)
    · rw [if_neg c1] at h
      refine J_lload (i := 5) 2 135 dX0_few_133 rfl rfl ?_
      refine J_aload_n (i := 3) 1 136 dX0_few_135 rfl rfl rfl ?_
      refine J_iload (i := 7) 3 138 dX0_few_136 rfl rfl ?_
      obtain ⟨v2, hv2, h⟩ := some_of_bind h
      refine J_lald 139 dX0_few_138 rfl hv2 ?_
      refine J_ladd 140 dX0_few_139 rfl ?_
      refine J_lstore (i := 5) 142 [(5, 2, .long (l5 + v2)), (1, 1, .int l1), (3, 1, va_rf l3), (7, 1, .int l7)] dX0_few_140 rfl (Nat.le_of_ble_eq_true rfl) rfl ?_
      refine J_iinc (i := 7) (v := l7 + (1 : Int32)) 3 145 [(7, 1, .int (l7 + (1 : Int32))), (5, 2, .long (l5 + v2)), (1, 1, .int l1), (3, 1, va_rf l3)] dX0_few_142 rfl rfl (Nat.le_of_ble_eq_true rfl) (by rw [kic_1]) rfl ?_
      refine J_goto 127 dX0_few_145 (by decide) ?_
      refine J.pick [2, 3, 1, 0] rfl ?_
      exact ih (l5 + v2) (l7 + (1 : Int32)) σ h
def X0_few_c64 (l1 : Int32) (l2 : Int32) (l3 : Option Nat) (l4 : Int32) (l5 : Int32) (k115 : Hp → Option (Int64 × Hp)) : Nat → Int32 → Hp → Option (Int64 × Hp)
  | 0, _, _ => none
  | n + 1, l6, σ =>
    if l6 < 0 then
      k115  σ
    else
      (aL σ l3 (l6 + (1 : Int32))).bind fun v2 =>
      (aL σ l3 l6).bind fun v3 =>
      (sL σ l3 (l6 + (1 : Int32)) (v2 + ((v3 * l4.toInt64) / (10 : Int64)))).bind fun σ4 =>
      (aL σ4 l3 l6).bind fun v5 =>
      (sL σ4 l3 l6 ((v5 * (((10 : Int32) - l4).toInt64)) / (10 : Int64))).bind fun σ6 =>
      X0_few_c64 l1 l2 l3 l4 l5 k115 n (l6 + (-1 : Int32)) σ6
set_option maxHeartbeats 4000000 in
theorem jX0_few_c64 {γ : GP} {σ0 : Hp} {q : (Int64 × Hp)} (hγ : GOK γ) (l1 : Int32) (l2 : Int32) (l3 : Option Nat) (l4 : Int32) (l5 : Int32) {k115 : Hp → Option (Int64 × Hp)} (hk115 : ∀  (σ : Hp), k115  σ = some q → J γ mX0_few (σ0, .inr (some (.long q.1)), q.2) σ 115 [(1, 1, .int l1), (2, 1, .int l2), (3, 1, va_rf l3), (4, 1, .int l4), (5, 1, .int l5)] []) : ∀ (n : Nat) (l6 : Int32) (σ : Hp), X0_few_c64 l1 l2 l3 l4 l5 k115 n l6 σ = some q → J γ mX0_few (σ0, .inr (some (.long q.1)), q.2) σ 64 [(1, 1, .int l1), (2, 1, .int l2), (3, 1, va_rf l3), (4, 1, .int l4), (5, 1, .int l5), (6, 1, .int l6)] [] := by
  intro n
  induction n with
  | zero => intro l6 σ h; exact nomatch (show none = some q from h)
  | succ n ih =>
    intro l6 σ h
    rw [X0_few_c64] at h
    refine J_iload (i := 6) 5 66 dX0_few_64 rfl rfl ?_
    refine J_if_lt 115 69 dX0_few_66 (by decide) rfl (fun c1 => ?_) (fun c1 => ?_)
    · rw [if_pos c1] at h
      refine J.pick [0, 1, 2, 3, 4] rfl ?_
      exact hk115  σ h
    · rw [if_neg c1] at h
      refine J_aload_n (i := 3) 2 70 dX0_few_69 rfl rfl rfl ?_
      refine J_iload (i := 6) 5 72 dX0_few_70 rfl rfl ?_
      refine J_ic 73 dX0_few_72 rfl (1 : Int32) kic_1 ?_
      refine J_iadd 74 dX0_few_73 rfl ?_
      refine J_dup2ir 75 dX0_few_74 rfl ?_
      obtain ⟨v2, hv2, h⟩ := some_of_bind h
      refine J_lald 76 dX0_few_75 rfl hv2 ?_
      refine J_aload_n (i := 3) 2 77 dX0_few_76 rfl rfl rfl ?_
      refine J_iload (i := 6) 5 79 dX0_few_77 rfl rfl ?_
      obtain ⟨v3, hv3, h⟩ := some_of_bind h
      refine J_lald 80 dX0_few_79 rfl hv3 ?_
      refine J_iload (i := 4) 3 82 dX0_few_80 rfl rfl ?_
      refine J_i2l 83 dX0_few_82 rfl ?_
      refine J_lmul 84 dX0_few_83 rfl ?_
      refine J_ldc2 (v := (10 : Int64)) 87 dX0_few_84 rfl q628 ?_
      refine J_ldiv 88 dX0_few_87 rfl (by decide) ?_
      refine J_ladd 89 dX0_few_88 rfl ?_
      obtain ⟨σ4, hσ4, h⟩ := some_of_bind h
      refine J_last 90 dX0_few_89 rfl hσ4 ?_
      refine J_aload_n (i := 3) 2 91 dX0_few_90 rfl rfl rfl ?_
      refine J_iload (i := 6) 5 93 dX0_few_91 rfl rfl ?_
      refine J_aload_n (i := 3) 2 94 dX0_few_93 rfl rfl rfl ?_
      refine J_iload (i := 6) 5 96 dX0_few_94 rfl rfl ?_
      obtain ⟨v5, hv5, h⟩ := some_of_bind h
      refine J_lald 97 dX0_few_96 rfl hv5 ?_
      refine J_bipush 99 dX0_few_97 rfl (10 : Int32) kbp_10 ?_
      refine J_iload (i := 4) 3 101 dX0_few_99 rfl rfl ?_
      refine J_isub 102 dX0_few_101 rfl ?_
      refine J_i2l 103 dX0_few_102 rfl ?_
      refine J_lmul 104 dX0_few_103 rfl ?_
      refine J_ldc2 (v := (10 : Int64)) 107 dX0_few_104 rfl q628 ?_
      refine J_ldiv 108 dX0_few_107 rfl (by decide) ?_
      obtain ⟨σ6, hσ6, h⟩ := some_of_bind h
      refine J_last 109 dX0_few_108 rfl hσ6 ?_
      refine J_iinc (i := 6) (v := l6 + (-1 : Int32)) 5 112 [(6, 1, .int (l6 + (-1 : Int32))), (1, 1, .int l1), (2, 1, .int l2), (3, 1, va_rf l3), (4, 1, .int l4), (5, 1, .int l5)] dX0_few_109 rfl rfl (Nat.le_of_ble_eq_true rfl) (by rw [kic_m1]) rfl ?_
      refine J_goto 64 dX0_few_112 (by decide) ?_
      refine J.pick [1, 2, 3, 4, 5, 0] rfl ?_
      exact ih (l6 + (-1 : Int32)) σ6 h
def X0_few_c53 (l1 : Int32) (l2 : Int32) (l3 : Option Nat) (l4 : Int32) (k121 : Hp → Option (Int64 × Hp)) : Nat → Int32 → Hp → Option (Int64 × Hp)
  | 0, _, _ => none
  | n + 1, l5, σ =>
    if l2 ≤ l5 then
      k121  σ
    else
      X0_few_c64 l1 l2 l3 l4 l5 (fun τ2 =>
        X0_few_c53 l1 l2 l3 l4 k121 n (l5 + (1 : Int32)) τ2) FUEL (l1 - (1 : Int32)) σ
set_option maxHeartbeats 4000000 in
theorem jX0_few_c53 {γ : GP} {σ0 : Hp} {q : (Int64 × Hp)} (hγ : GOK γ) (l1 : Int32) (l2 : Int32) (l3 : Option Nat) (l4 : Int32) {k121 : Hp → Option (Int64 × Hp)} (hk121 : ∀  (σ : Hp), k121  σ = some q → J γ mX0_few (σ0, .inr (some (.long q.1)), q.2) σ 121 [(1, 1, .int l1), (3, 1, va_rf l3)] []) : ∀ (n : Nat) (l5 : Int32) (σ : Hp), X0_few_c53 l1 l2 l3 l4 k121 n l5 σ = some q → J γ mX0_few (σ0, .inr (some (.long q.1)), q.2) σ 53 [(1, 1, .int l1), (2, 1, .int l2), (3, 1, va_rf l3), (4, 1, .int l4), (5, 1, .int l5)] [] := by
  intro n
  induction n with
  | zero => intro l5 σ h; exact nomatch (show none = some q from h)
  | succ n ih =>
    intro l5 σ h
    rw [X0_few_c53] at h
    refine J_iload (i := 5) 4 55 dX0_few_53 rfl rfl ?_
    refine J_iload_n (i := 2) 1 56 dX0_few_55 rfl rfl rfl ?_
    refine J_icmp_ge 121 59 dX0_few_56 (by decide) rfl (fun c1 => ?_) (fun c1 => ?_)
    · rw [if_pos c1] at h
      refine J.pick [0, 2] rfl ?_
      exact hk121  σ h
    · rw [if_neg c1] at h
      refine J_iload_n (i := 1) 0 60 dX0_few_59 rfl rfl rfl ?_
      refine J_ic 61 dX0_few_60 rfl (1 : Int32) kic_1 ?_
      refine J_isub 62 dX0_few_61 rfl ?_
      refine J_istore (i := 6) 64 [(6, 1, .int (l1 - (1 : Int32))), (1, 1, .int l1), (2, 1, .int l2), (3, 1, va_rf l3), (4, 1, .int l4), (5, 1, .int l5)] dX0_few_62 rfl (Nat.le_of_ble_eq_true rfl) rfl ?_
      refine J.pick [1, 2, 3, 4, 5, 0] rfl ?_
      refine jX0_few_c64 hγ l1 l2 l3 l4 l5 (fun τ2 h => ?_) FUEL (l1 - (1 : Int32)) σ h
      · refine J_iinc (i := 5) (v := l5 + (1 : Int32)) 4 118 [(5, 1, .int (l5 + (1 : Int32))), (1, 1, .int l1), (2, 1, .int l2), (3, 1, va_rf l3), (4, 1, .int l4)] dX0_few_115 rfl rfl (Nat.le_of_ble_eq_true rfl) (by rw [kic_1]) rfl ?_
        refine J_goto 53 dX0_few_118 (by decide) ?_
        refine J.pick [1, 2, 3, 4, 0] rfl ?_
        exact ih (l5 + (1 : Int32)) τ2 h
def X0_few_c24    (σ : Hp) : Option (Int64 × Hp) :=
  some ((-1 : Int64), σ)
set_option maxHeartbeats 4000000 in
theorem jX0_few_c24 {γ : GP} {σ0 : Hp} {q : (Int64 × Hp)} (hγ : GOK γ)    (σ : Hp) (h : X0_few_c24  σ = some q) : J γ mX0_few (σ0, .inr (some (.long q.1)), q.2) σ 24 [] [] := by
  unfold X0_few_c24 at h
  refine J_ldc2 (v := (-1 : Int64)) 27 dX0_few_24 rfl q1651 ?_
  exact J_lret rfl dX0_few_27 (retL h)
def X0_few (l0 : Option Nat) (l1 : Int32) (l2 : Int32) (σ : Hp) : Option (Int64 × Hp) :=
  (X0_in l1.toInt64 (1 : Int64) (20 : Int64) σ).bind fun q1 =>
  if q1.1 = 0 then
    X0_few_c24    q1.2
  else
    (X0_in l2.toInt64 (0 : Int64) (99 : Int64) q1.2).bind fun q3 =>
    if q3.1 = 0 then
      X0_few_c24    q3.2
    else
      (nA 1 q3.2 (21 : Int32)).bind fun σ5 =>
      (sL σ5 (some (hsz q3.2)) (0 : Int32) (1000000000000 : Int64)).bind fun σ6 =>
      (gR σ6 l0 [0] 0).bind fun v7 =>
      (gR σ6 v7 [1] 1).bind fun v8 =>
      (aI 0 σ6 v8 (1 : Int32)).bind fun v9 =>
      X0_few_c53 l1 l2 (some (hsz q3.2)) v9 (fun τ10 =>
        X0_few_c127 l1 (some (hsz q3.2))  FUEL (0 : Int64) (0 : Int32) τ10) FUEL (0 : Int32) σ6
set_option maxHeartbeats 4000000 in
theorem sX0_few {γ : GP} (hγ : GOK γ) (l0 : Option Nat) (l1 : Int32) (l2 : Int32) (σ : Hp) (q : (Int64 × Hp)) (h : X0_few l0 l1 l2 σ = some q) : Rn γ mX0_few yX0_few [va_rf l0, .int l1, .int l2] (σ, .inr (some (.long q.1)), q.2) := by
  refine J_m hγ ykX0_few rfl [(1, va_rf l0), (1, .int l1), (1, .int l2)] (cats_r (cats_i (cats_i cats_nil))) (Nat.le_of_ble_eq_true rfl) ?_
  show J γ mX0_few _ σ 0 [(0, 1, va_rf l0), (1, 1, .int l1), (2, 1, .int l2)] []
  unfold X0_few at h
  refine J_iload_n (i := 1) 1 1 dX0_few_0 rfl rfl rfl ?_
  refine J_i2l 2 dX0_few_1 rfl ?_
  refine J_lconst 3 dX0_few_2 rfl (1 : Int64) rfl ?_
  refine J_ldc2 (v := (20 : Int64)) 6 dX0_few_3 rfl q2047 ?_
  obtain ⟨q1, hq1, h⟩ := some_of_bind h
  refine J_cSi 9 dX0_few_6 rfl ykX0_in (Or.inl q484) q485 (Nat.le_of_ble_eq_true rfl) cs_nil (by decide) [.long l1.toInt64, .long (1 : Int64), .long (20 : Int64)] rfl rfl (sX0_in hγ l1.toInt64 (1 : Int64) (20 : Int64) σ q1 hq1) ?_
  refine J_if_eq 24 12 dX0_few_9 (by decide) rfl (fun c2 => ?_) (fun c2 => ?_)
  · rw [if_pos c2] at h
    refine J.pick [] rfl ?_
    exact jX0_few_c24 hγ   q1.2 h
  · rw [if_neg c2] at h
    refine J_iload_n (i := 2) 2 13 dX0_few_12 rfl rfl rfl ?_
    refine J_i2l 14 dX0_few_13 rfl ?_
    refine J_lconst 15 dX0_few_14 rfl (0 : Int64) rfl ?_
    refine J_ldc2 (v := (99 : Int64)) 18 dX0_few_15 rfl q2048 ?_
    obtain ⟨q3, hq3, h⟩ := some_of_bind h
    refine J_cSi 21 dX0_few_18 rfl ykX0_in (Or.inl q484) q485 (Nat.le_of_ble_eq_true rfl) cs_nil (by decide) [.long l2.toInt64, .long (0 : Int64), .long (99 : Int64)] rfl rfl (sX0_in hγ l2.toInt64 (0 : Int64) (99 : Int64) q1.2 q3 hq3) ?_
    refine J_if_ne 28 24 dX0_few_21 (by decide) rfl (fun c4 => ?_) (fun c4 => ?_)
    · rw [if_neg c4] at h
      refine J_bipush 30 dX0_few_28 rfl (21 : Int32) kbp_21 ?_
      obtain ⟨σ5, hσ5, h⟩ := some_of_bind h
      refine J_newL 32 dX0_few_30 rfl hσ5 ?_
      refine J_astore_n (i := 3) 33 [(3, 1, va_rf (some (hsz q3.2))), (0, 1, va_rf l0), (1, 1, .int l1), (2, 1, .int l2)] dX0_few_32 rfl rfl (Nat.le_of_ble_eq_true rfl) rfl ?_
      refine J_aload_n (i := 3) 0 34 dX0_few_33 rfl rfl rfl ?_
      refine J_ic 35 dX0_few_34 rfl (0 : Int32) kic_0 ?_
      refine J_ldc2 (v := (1000000000000 : Int64)) 38 dX0_few_35 rfl q2049 ?_
      obtain ⟨σ6, hσ6, h⟩ := some_of_bind h
      refine J_last 39 dX0_few_38 rfl hσ6 ?_
      refine J_aload_n (i := 0) 1 40 dX0_few_39 rfl rfl rfl ?_
      obtain ⟨v7, hv7, h⟩ := some_of_bind h
      refine J_gR 43 dX0_few_40 rfl fk_x_133 hv7 ?_
      obtain ⟨v8, hv8, h⟩ := some_of_bind h
      refine J_gR 46 dX0_few_43 rfl fk_z_233 hv8 ?_
      refine J_ic 47 dX0_few_46 rfl (1 : Int32) kic_1 ?_
      obtain ⟨v9, hv9, h⟩ := some_of_bind h
      refine J_iald 48 dX0_few_47 rfl hv9 ?_
      refine J_istore (i := 4) 50 [(4, 1, .int v9), (3, 1, va_rf (some (hsz q3.2))), (0, 1, va_rf l0), (1, 1, .int l1), (2, 1, .int l2)] dX0_few_48 rfl (Nat.le_of_ble_eq_true rfl) rfl ?_
      refine J_ic 51 dX0_few_50 rfl (0 : Int32) kic_0 ?_
      refine J_istore (i := 5) 53 [(5, 1, .int (0 : Int32)), (4, 1, .int v9), (3, 1, va_rf (some (hsz q3.2))), (0, 1, va_rf l0), (1, 1, .int l1), (2, 1, .int l2)] dX0_few_51 rfl (Nat.le_of_ble_eq_true rfl) rfl ?_
      refine J.pick [4, 5, 2, 1, 0] rfl ?_
      refine jX0_few_c53 hγ l1 l2 (some (hsz q3.2)) v9 (fun τ10 h => ?_) FUEL (0 : Int32) σ6 h
      · refine J_lconst 122 dX0_few_121 rfl (0 : Int64) rfl ?_
        refine J_lstore (i := 5) 124 [(5, 2, .long (0 : Int64)), (1, 1, .int l1), (3, 1, va_rf (some (hsz q3.2)))] dX0_few_122 rfl (Nat.le_of_ble_eq_true rfl) rfl ?_
        refine J_ic 125 dX0_few_124 rfl (0 : Int32) kic_0 ?_
        refine J_istore (i := 7) 127 [(7, 1, .int (0 : Int32)), (5, 2, .long (0 : Int64)), (1, 1, .int l1), (3, 1, va_rf (some (hsz q3.2)))] dX0_few_125 rfl (Nat.le_of_ble_eq_true rfl) rfl ?_
        refine J.pick [2, 3, 1, 0] rfl ?_
        refine jX0_few_c127 hγ l1 (some (hsz q3.2))  FUEL (0 : Int64) (0 : Int32) τ10 h
    · rw [if_pos c4] at h
      refine J.pick [] rfl ?_
      exact jX0_few_c24 hγ   q3.2 h
abbrev mX0_had : MP := (cX0_had, "MissCurves", 2, (Option.some FieldType.int), 0, "had", [])
theorem ykX0_had : YK yX0_had mX0_had 1 := ⟨q651, q128, ⟨by decide, by decide⟩, by decide +kernel, Nat.le_of_ble_eq_true rfl, by decide, rfl, rfl⟩
def X0_had (l0 : Option Nat) (l1 : Int32) (σ : Hp) : Option (Int32 × Hp) :=
  (pI σ l0 [0] 10 (0 : Int32)).bind fun σ1 =>
  some (l1, σ1)
set_option maxHeartbeats 4000000 in
theorem sX0_had {γ : GP} (hγ : GOK γ) (l0 : Option Nat) (l1 : Int32) (σ : Hp) (q : (Int32 × Hp)) (h : X0_had l0 l1 σ = some q) : Rn γ mX0_had yX0_had [va_rf l0, .int l1] (σ, .inr (some (.int q.1)), q.2) := by
  refine J_m hγ ykX0_had rfl [(1, va_rf l0), (1, .int l1)] (cats_r (cats_i cats_nil)) (Nat.le_of_ble_eq_true rfl) ?_
  show J γ mX0_had _ σ 0 [(0, 1, va_rf l0), (1, 1, .int l1)] []
  unfold X0_had at h
  refine J_aload_n (i := 0) 0 1 dX0_had_0 rfl rfl rfl ?_
  refine J_ic 2 dX0_had_1 rfl (0 : Int32) kic_0 ?_
  obtain ⟨σ1, hσ1, h⟩ := some_of_bind h
  refine J_pI 5 dX0_had_2 rfl pk_z_236 hσ1 ?_
  refine J_iload_n (i := 1) 1 6 dX0_had_5 rfl rfl rfl ?_
  exact J_iret rfl dX0_had_6 (retI h)
abbrev mX0_force : MP := (cX0_force, "MissCurves", 3, (Option.some FieldType.int), 2, "force", [])
theorem ykX0_force : YK yX0_force mX0_force 1 := ⟨q1567, q128, ⟨by decide, by decide⟩, by decide +kernel, Nat.le_of_ble_eq_true rfl, by decide, rfl, rfl⟩
def X0_force (l0 : Option Nat) (l1 : Int32) (σ : Hp) : Option (Int32 × Hp) :=
  (cT σ l0 0).bind fun b2 =>
  (X0_isLaw l0 l1 σ).bind fun q1 =>
  if q1.1 = 0 then
    (cT q1.2 l0 0).bind fun b11 =>
    (X0_tell l0 (-2 : Int32) q1.2).bind fun q10 =>
    some (q10.1, q10.2)
  else
    (gR q1.2 l0 [0] 0).bind fun v4 =>
    (gI q1.2 v4 [1] 6).bind fun v5 =>
    (gR q1.2 l0 [0] 0).bind fun v6 =>
    (pI q1.2 v6 [1] 6 l1).bind fun σ7 =>
    (cT σ7 l0 0).bind fun b9 =>
    (X0_had l0 v5 σ7).bind fun q8 =>
    some (q8.1, q8.2)
set_option maxHeartbeats 4000000 in
theorem sX0_force {γ : GP} (hγ : GOK γ) (l0 : Option Nat) (l1 : Int32) (σ : Hp) (q : (Int32 × Hp)) (h : X0_force l0 l1 σ = some q) : Rn γ mX0_force yX0_force [va_rf l0, .int l1] (σ, .inr (some (.int q.1)), q.2) := by
  refine J_m hγ ykX0_force rfl [(1, va_rf l0), (1, .int l1)] (cats_r (cats_i cats_nil)) (Nat.le_of_ble_eq_true rfl) ?_
  show J γ mX0_force _ σ 0 [(0, 1, va_rf l0), (1, 1, .int l1)] []
  unfold X0_force at h
  refine J_aload_n (i := 0) 0 1 dX0_force_0 rfl rfl rfl ?_
  refine J_iload_n (i := 1) 1 2 dX0_force_1 rfl rfl rfl ?_
  obtain ⟨b2, hb2, h⟩ := some_of_bind h
  obtain ⟨q1, hq1, h⟩ := some_of_bind h
  refine J_cVi 5 dX0_force_2 rfl ykX0_isLaw (Or.inl q1568) q1570 qs21 (Nat.le_of_ble_eq_true rfl) cs_nil (by decide) [.int l1] hb2 (by decide) rfl rfl rfl (sX0_isLaw hγ l0 l1 σ q1 hq1) ?_
  refine J_if_ne 15 8 dX0_force_5 (by decide) rfl (fun c3 => ?_) (fun c3 => ?_)
  · rw [if_neg c3] at h
    refine J_aload_n (i := 0) 0 16 dX0_force_15 rfl rfl rfl ?_
    obtain ⟨v4, hv4, h⟩ := some_of_bind h
    refine J_gR 19 dX0_force_16 rfl fk_x_133 hv4 ?_
    obtain ⟨v5, hv5, h⟩ := some_of_bind h
    refine J_gI 22 dX0_force_19 rfl fk_z_266 hv5 ?_
    refine J_istore_n (i := 2) 23 [(2, 1, .int v5), (0, 1, va_rf l0), (1, 1, .int l1)] dX0_force_22 rfl rfl (Nat.le_of_ble_eq_true rfl) rfl ?_
    refine J_aload_n (i := 0) 1 24 dX0_force_23 rfl rfl rfl ?_
    obtain ⟨v6, hv6, h⟩ := some_of_bind h
    refine J_gR 27 dX0_force_24 rfl fk_x_133 hv6 ?_
    refine J_iload_n (i := 1) 2 28 dX0_force_27 rfl rfl rfl ?_
    obtain ⟨σ7, hσ7, h⟩ := some_of_bind h
    refine J_pI 31 dX0_force_28 rfl pk_z_268 hσ7 ?_
    refine J_aload_n (i := 0) 1 32 dX0_force_31 rfl rfl rfl ?_
    refine J_iload_n (i := 2) 0 33 dX0_force_32 rfl rfl rfl ?_
    obtain ⟨b9, hb9, h⟩ := some_of_bind h
    obtain ⟨q8, hq8, h⟩ := some_of_bind h
    refine J_cVi 36 dX0_force_33 rfl ykX0_had (Or.inl q648) q650 qs9 (Nat.le_of_ble_eq_true rfl) cs_nil (by decide) [.int v5] hb9 (by decide) rfl rfl rfl (sX0_had hγ l0 v5 σ7 q8 hq8) ?_
    exact J_iret rfl dX0_force_36 (retI h)
  · rw [if_pos c3] at h
    refine J_aload_n (i := 0) 0 9 dX0_force_8 rfl rfl rfl ?_
    refine J_bipush 11 dX0_force_9 rfl (-2 : Int32) kbp_m2 ?_
    obtain ⟨b11, hb11, h⟩ := some_of_bind h
    obtain ⟨q10, hq10, h⟩ := some_of_bind h
    refine J_cVi 14 dX0_force_11 rfl ykX0_tell (Or.inl q630) q632 qs7 (Nat.le_of_ble_eq_true rfl) cs_nil (by decide) [.int (-2 : Int32)] hb11 (by decide) rfl rfl rfl (sX0_tell hγ l0 (-2 : Int32) q1.2 q10 hq10) ?_
    exact J_iret rfl dX0_force_14 (retI h)
abbrev mX0_forget : MP := (cX0_forget, "MissCurves", 2, (Option.some FieldType.int), 0, "forget", [])
theorem ykX0_forget : YK yX0_forget mX0_forget 0 := ⟨q2026, q128, ⟨by decide, by decide⟩, by decide +kernel, Nat.le_of_ble_eq_true rfl, by decide, rfl, rfl⟩
theorem pk_z_275 {nm9 : String} : POK "MissCurves" nm9 466 [1] 5 .int := POK.one (by decide) rfl (Nat.le_of_ble_eq_true rfl) (Or.inr ⟨_, q303⟩) rfl (by decide +kernel) (Or.inl rfl)
def X0_forget (l0 : Option Nat) (σ : Hp) : Option (Int32 × Hp) :=
  (gR σ l0 [0] 0).bind fun v1 =>
  (gI σ v1 [1] 5).bind fun v2 =>
  (gR σ l0 [0] 0).bind fun v3 =>
  (pI σ v3 [1] 5 (0 : Int32)).bind fun σ4 =>
  some (v2, σ4)
set_option maxHeartbeats 4000000 in
theorem sX0_forget {γ : GP} (hγ : GOK γ) (l0 : Option Nat) (σ : Hp) (q : (Int32 × Hp)) (h : X0_forget l0 σ = some q) : Rn γ mX0_forget yX0_forget [va_rf l0] (σ, .inr (some (.int q.1)), q.2) := by
  refine J_m hγ ykX0_forget rfl [(1, va_rf l0)] (cats_r cats_nil) (Nat.le_of_ble_eq_true rfl) ?_
  show J γ mX0_forget _ σ 0 [(0, 1, va_rf l0)] []
  unfold X0_forget at h
  refine J_aload_n (i := 0) 0 1 dX0_forget_0 rfl rfl rfl ?_
  obtain ⟨v1, hv1, h⟩ := some_of_bind h
  refine J_gR 4 dX0_forget_1 rfl fk_x_133 hv1 ?_
  obtain ⟨v2, hv2, h⟩ := some_of_bind h
  refine J_gI 7 dX0_forget_4 rfl fk_z_234 hv2 ?_
  refine J_istore_n (i := 1) 8 [(1, 1, .int v2), (0, 1, va_rf l0)] dX0_forget_7 rfl rfl (Nat.le_of_ble_eq_true rfl) rfl ?_
  refine J_aload_n (i := 0) 1 9 dX0_forget_8 rfl rfl rfl ?_
  obtain ⟨v3, hv3, h⟩ := some_of_bind h
  refine J_gR 12 dX0_forget_9 rfl fk_x_133 hv3 ?_
  refine J_ic 13 dX0_forget_12 rfl (0 : Int32) kic_0 ?_
  obtain ⟨σ4, hσ4, h⟩ := some_of_bind h
  refine J_pI 16 dX0_forget_13 rfl pk_z_275 hσ4 ?_
  refine J_iload_n (i := 1) 0 17 dX0_forget_16 rfl rfl rfl ?_
  exact J_iret rfl dX0_forget_17 (retI h)
abbrev mX0_guess : MP := (cX0_guess, "MissCurves", 6, (Option.some FieldType.int), 2, "guess", [])
theorem ykX0_guess : YK yX0_guess mX0_guess 2 := ⟨q1814, q128, ⟨by decide, by decide⟩, by decide +kernel, Nat.le_of_ble_eq_true rfl, by decide, rfl, rfl⟩
theorem fk_z_276 : FOK "MissCurves" 418 [3] 4 isR := FOK.one (by decide) rfl (Nat.le_of_ble_eq_true rfl) (Or.inr ⟨_, q245⟩) rfl
def X0_guess_c23 (l0 : Option Nat) (l1 : Int32) (k50 : Int64 → Hp → Option (Int32 × Hp)) : Nat → Int64 → Int32 → Hp → Option (Int32 × Hp)
  | 0, _, _, _ => none
  | n + 1, l3, l5, σ =>
    if (25 : Int32) < l5 then
      k50 l3 σ
    else
      (cT σ l0 0).bind fun b3 =>
      (X0_book l0 l1 σ).bind fun q2 =>
      (gR q2.2 q2.1 [3] 4).bind fun v4 =>
      (aL q2.2 v4 l5).bind fun v5 =>
      X0_guess_c23 l0 l1 k50 n (l3 + v5) (l5 + (1 : Int32)) q2.2
set_option maxHeartbeats 4000000 in
theorem jX0_guess_c23 {γ : GP} {σ0 : Hp} {q : (Int32 × Hp)} (hγ : GOK γ) (l0 : Option Nat) (l1 : Int32) {k50 : Int64 → Hp → Option (Int32 × Hp)} (hk50 : ∀ (l3 : Int64) (σ : Hp), k50 l3 σ = some q → J γ mX0_guess (σ0, .inr (some (.int q.1)), q.2) σ 50 [(3, 2, .long l3)] []) : ∀ (n : Nat) (l3 : Int64) (l5 : Int32) (σ : Hp), X0_guess_c23 l0 l1 k50 n l3 l5 σ = some q → J γ mX0_guess (σ0, .inr (some (.int q.1)), q.2) σ 23 [(0, 1, va_rf l0), (1, 1, .int l1), (3, 2, .long l3), (5, 1, .int l5)] [] := by
  intro n
  induction n with
  | zero => intro l3 l5 σ h; exact nomatch (show none = some q from h)
  | succ n ih =>
    intro l3 l5 σ h
    rw [X0_guess_c23] at h
    refine J_iload (i := 5) 3 25 dX0_guess_23 rfl rfl ?_
    refine J_bipush 27 dX0_guess_25 rfl (25 : Int32) kbp_25 ?_
    refine J_icmp_gt 50 30 dX0_guess_27 (by decide) rfl (fun c1 => ?_) (fun c1 => ?_)
    · rw [if_pos c1] at h
      refine J.pick [2] rfl ?_
      exact hk50 l3 σ h
    · rw [if_neg c1] at h
      refine J_lload_n (i := 3) 2 31 dX0_guess_30 rfl rfl rfl ?_
      refine J_aload_n (i := 0) 0 32 dX0_guess_31 rfl rfl rfl ?_
      refine J_iload_n (i := 1) 1 33 dX0_guess_32 rfl rfl rfl ?_
      obtain ⟨b3, hb3, h⟩ := some_of_bind h
      obtain ⟨q2, hq2, h⟩ := some_of_bind h
      refine J_cVr 36 dX0_guess_33 rfl ykX0_book (Or.inl q495) q497 qs1 (Nat.le_of_ble_eq_true rfl) (cs_long cs_nil) (by decide) [.int l1] hb3 (by decide) rfl rfl rfl (sX0_book hγ l0 l1 σ q2 hq2) ?_
      obtain ⟨v4, hv4, h⟩ := some_of_bind h
      refine J_gR 39 dX0_guess_36 rfl fk_z_276 hv4 ?_
      refine J_iload (i := 5) 3 41 dX0_guess_39 rfl rfl ?_
      obtain ⟨v5, hv5, h⟩ := some_of_bind h
      refine J_lald 42 dX0_guess_41 rfl hv5 ?_
      refine J_ladd 43 dX0_guess_42 rfl ?_
      refine J_lstore_n (i := 3) 44 [(3, 2, .long (l3 + v5)), (0, 1, va_rf l0), (1, 1, .int l1), (5, 1, .int l5)] dX0_guess_43 rfl rfl (Nat.le_of_ble_eq_true rfl) rfl ?_
      refine J_iinc (i := 5) (v := l5 + (1 : Int32)) 3 47 [(5, 1, .int (l5 + (1 : Int32))), (3, 2, .long (l3 + v5)), (0, 1, va_rf l0), (1, 1, .int l1)] dX0_guess_44 rfl rfl (Nat.le_of_ble_eq_true rfl) (by rw [kic_1]) rfl ?_
      refine J_goto 23 dX0_guess_47 (by decide) ?_
      refine J.pick [2, 3, 1, 0] rfl ?_
      exact ih (l3 + v5) (l5 + (1 : Int32)) q2.2 h
def X0_guess (l0 : Option Nat) (l1 : Int32) (l2 : Int32) (σ : Hp) : Option (Int32 × Hp) :=
  (X0_isTenant l1 σ).bind fun q1 =>
  if q1.1 = 0 then
    some ((-1 : Int32), q1.2)
  else
    (X0_isSize l2 q1.2).bind fun q3 =>
    if q3.1 = 0 then
      some ((-1 : Int32), q3.2)
    else
      X0_guess_c23 l0 l1 (fun x5 τ6 =>
        some ((lmin (2000000000 : Int64) (x5 / (1000 : Int64))).toInt32, τ6)) FUEL (0 : Int64) (l2 + (1 : Int32)) q3.2
set_option maxHeartbeats 4000000 in
theorem sX0_guess {γ : GP} (hγ : GOK γ) (l0 : Option Nat) (l1 : Int32) (l2 : Int32) (σ : Hp) (q : (Int32 × Hp)) (h : X0_guess l0 l1 l2 σ = some q) : Rn γ mX0_guess yX0_guess [va_rf l0, .int l1, .int l2] (σ, .inr (some (.int q.1)), q.2) := by
  refine J_m hγ ykX0_guess rfl [(1, va_rf l0), (1, .int l1), (1, .int l2)] (cats_r (cats_i (cats_i cats_nil))) (Nat.le_of_ble_eq_true rfl) ?_
  show J γ mX0_guess _ σ 0 [(0, 1, va_rf l0), (1, 1, .int l1), (2, 1, .int l2)] []
  unfold X0_guess at h
  refine J_iload_n (i := 1) 1 1 dX0_guess_0 rfl rfl rfl ?_
  obtain ⟨q1, hq1, h⟩ := some_of_bind h
  refine J_cSi 4 dX0_guess_1 rfl ykX0_isTenant (Or.inl q491) q492 (Nat.le_of_ble_eq_true rfl) cs_nil (by decide) [.int l1] rfl rfl (sX0_isTenant hγ l1 σ q1 hq1) ?_
  refine J_if_eq 14 7 dX0_guess_4 (by decide) rfl (fun c2 => ?_) (fun c2 => ?_)
  · rw [if_pos c2] at h
    refine J_ic 15 dX0_guess_14 rfl (-1 : Int32) kic_m1 ?_
    exact J_iret rfl dX0_guess_15 (retI h)
  · rw [if_neg c2] at h
    refine J_iload_n (i := 2) 2 8 dX0_guess_7 rfl rfl rfl ?_
    obtain ⟨q3, hq3, h⟩ := some_of_bind h
    refine J_cSi 11 dX0_guess_8 rfl ykX0_isSize (Or.inl q1639) q1640 (Nat.le_of_ble_eq_true rfl) cs_nil (by decide) [.int l2] rfl rfl (sX0_isSize hγ l2 q1.2 q3 hq3) ?_
    refine J_if_ne 16 14 dX0_guess_11 (by decide) rfl (fun c4 => ?_) (fun c4 => ?_)
    · rw [if_neg c4] at h
      refine J_lconst 17 dX0_guess_16 rfl (0 : Int64) rfl ?_
      refine J_lstore_n (i := 3) 18 [(3, 2, .long (0 : Int64)), (0, 1, va_rf l0), (1, 1, .int l1), (2, 1, .int l2)] dX0_guess_17 rfl rfl (Nat.le_of_ble_eq_true rfl) rfl ?_
      refine J_iload_n (i := 2) 3 19 dX0_guess_18 rfl rfl rfl ?_
      refine J_ic 20 dX0_guess_19 rfl (1 : Int32) kic_1 ?_
      refine J_iadd 21 dX0_guess_20 rfl ?_
      refine J_istore (i := 5) 23 [(5, 1, .int (l2 + (1 : Int32))), (3, 2, .long (0 : Int64)), (0, 1, va_rf l0), (1, 1, .int l1), (2, 1, .int l2)] dX0_guess_21 rfl (Nat.le_of_ble_eq_true rfl) rfl ?_
      refine J.pick [2, 3, 1, 0] rfl ?_
      refine jX0_guess_c23 hγ l0 l1 (fun x5 τ6 h => ?_) FUEL (0 : Int64) (l2 + (1 : Int32)) q3.2 h
      · refine J_ldc2 (v := (2000000000 : Int64)) 53 dX0_guess_50 rfl q1815 ?_
        refine J_lload_n (i := 3) 0 54 dX0_guess_53 rfl rfl rfl ?_
        refine J_ldc2 (v := (1000 : Int64)) 57 dX0_guess_54 rfl q1664 ?_
        refine J_ldiv 58 dX0_guess_57 rfl (by decide) ?_
        refine J_mminL q1816 (Nat.le_of_ble_eq_true rfl) cs_nil (by decide) 61 dX0_guess_58 rfl ?_
        refine J_l2i 62 dX0_guess_61 rfl ?_
        exact J_iret rfl dX0_guess_62 (retI h)
    · rw [if_pos c4] at h
      refine J_ic 15 dX0_guess_14 rfl (-1 : Int32) kic_m1 ?_
      exact J_iret rfl dX0_guess_15 (retI h)
abbrev mX0_hull : MP := (cX0_hull, "MissCurves", 5, (Option.some FieldType.long), 3, "hull", [])
theorem ykX0_hull : YK yX0_hull mX0_hull 2 := ⟨q1650, q128, ⟨by decide, by decide⟩, by decide +kernel, Nat.le_of_ble_eq_true rfl, by decide, rfl, rfl⟩
def X0_hull_c14    (σ : Hp) : Option (Int64 × Hp) :=
  some ((-1 : Int64), σ)
set_option maxHeartbeats 4000000 in
theorem jX0_hull_c14 {γ : GP} {σ0 : Hp} {q : (Int64 × Hp)} (hγ : GOK γ)    (σ : Hp) (h : X0_hull_c14  σ = some q) : J γ mX0_hull (σ0, .inr (some (.long q.1)), q.2) σ 14 [] [] := by
  unfold X0_hull_c14 at h
  refine J_ldc2 (v := (-1 : Int64)) 17 dX0_hull_14 rfl q1651 ?_
  exact J_lret rfl dX0_hull_17 (retL h)
def X0_hull (l0 : Option Nat) (l1 : Int32) (l2 : Int32) (σ : Hp) : Option (Int64 × Hp) :=
  (X0_isTenant l1 σ).bind fun q1 =>
  if q1.1 = 0 then
    X0_hull_c14    q1.2
  else
    (X0_isSize l2 q1.2).bind fun q3 =>
    if q3.1 = 0 then
      X0_hull_c14    q3.2
    else
      (cT q3.2 l0 0).bind fun b6 =>
      (X0_layCurve l0 l1 q3.2).bind fun q5 =>
      (gR q5 l0 [0] 17).bind fun v7 =>
      (cT q5 l0 0).bind fun b9 =>
      (X0_bendOf l0 l2 q5).bind fun q8 =>
      (aI 0 q8.2 v7 q8.1).bind fun v10 =>
      (gR q8.2 l0 [0] 17).bind fun v11 =>
      (cT q8.2 l0 0).bind fun b13 =>
      (X0_bendOf l0 l2 q8.2).bind fun q12 =>
      (aI 0 q12.2 v11 (q12.1 + (1 : Int32))).bind fun v14 =>
      (gR q12.2 l0 [0] 16).bind fun v15 =>
      (aI 0 q12.2 v15 v10).bind fun v16 =>
      (gR q12.2 l0 [0] 16).bind fun v17 =>
      (aI 0 q12.2 v17 v14).bind fun v18 =>
      if ((v14 - v10).toInt64) = 0 then none else
      some ((((1000 : Int64) * ((v16.toInt64 * ((v14 - l2).toInt64)) + (v18.toInt64 * ((l2 - v10).toInt64)))) / ((v14 - v10).toInt64)), q12.2)
set_option maxHeartbeats 4000000 in
theorem sX0_hull {γ : GP} (hγ : GOK γ) (l0 : Option Nat) (l1 : Int32) (l2 : Int32) (σ : Hp) (q : (Int64 × Hp)) (h : X0_hull l0 l1 l2 σ = some q) : Rn γ mX0_hull yX0_hull [va_rf l0, .int l1, .int l2] (σ, .inr (some (.long q.1)), q.2) := by
  refine J_m hγ ykX0_hull rfl [(1, va_rf l0), (1, .int l1), (1, .int l2)] (cats_r (cats_i (cats_i cats_nil))) (Nat.le_of_ble_eq_true rfl) ?_
  show J γ mX0_hull _ σ 0 [(0, 1, va_rf l0), (1, 1, .int l1), (2, 1, .int l2)] []
  unfold X0_hull at h
  refine J_iload_n (i := 1) 1 1 dX0_hull_0 rfl rfl rfl ?_
  obtain ⟨q1, hq1, h⟩ := some_of_bind h
  refine J_cSi 4 dX0_hull_1 rfl ykX0_isTenant (Or.inl q491) q492 (Nat.le_of_ble_eq_true rfl) cs_nil (by decide) [.int l1] rfl rfl (sX0_isTenant hγ l1 σ q1 hq1) ?_
  refine J_if_eq 14 7 dX0_hull_4 (by decide) rfl (fun c2 => ?_) (fun c2 => ?_)
  · rw [if_pos c2] at h
    refine J.pick [] rfl ?_
    exact jX0_hull_c14 hγ   q1.2 h
  · rw [if_neg c2] at h
    refine J_iload_n (i := 2) 2 8 dX0_hull_7 rfl rfl rfl ?_
    obtain ⟨q3, hq3, h⟩ := some_of_bind h
    refine J_cSi 11 dX0_hull_8 rfl ykX0_isSize (Or.inl q1639) q1640 (Nat.le_of_ble_eq_true rfl) cs_nil (by decide) [.int l2] rfl rfl (sX0_isSize hγ l2 q1.2 q3 hq3) ?_
    refine J_if_ne 18 14 dX0_hull_11 (by decide) rfl (fun c4 => ?_) (fun c4 => ?_)
    · rw [if_neg c4] at h
      refine J_aload_n (i := 0) 0 19 dX0_hull_18 rfl rfl rfl ?_
      refine J_iload_n (i := 1) 1 20 dX0_hull_19 rfl rfl rfl ?_
      obtain ⟨b6, hb6, h⟩ := some_of_bind h
      obtain ⟨q5, hq5, h⟩ := some_of_bind h
      refine J_cVv 23 dX0_hull_20 rfl ykX0_layCurve (Or.inl q1652) q1654 qs27 (Nat.le_of_ble_eq_true rfl) cs_nil (by decide) [.int l1] hb6 (by decide) rfl rfl rfl (sX0_layCurve hγ l0 l1 q3.2 q5 hq5) ?_
      refine J_aload_n (i := 0) 0 24 dX0_hull_23 rfl rfl rfl ?_
      obtain ⟨v7, hv7, h⟩ := some_of_bind h
      refine J_gR 27 dX0_hull_24 rfl fk_z_261 hv7 ?_
      refine J_aload_n (i := 0) 0 28 dX0_hull_27 rfl rfl rfl ?_
      refine J_iload_n (i := 2) 2 29 dX0_hull_28 rfl rfl rfl ?_
      obtain ⟨b9, hb9, h⟩ := some_of_bind h
      obtain ⟨q8, hq8, h⟩ := some_of_bind h
      refine J_cVi 32 dX0_hull_29 rfl ykX0_bendOf (Or.inl q1660) q1662 qs29 (Nat.le_of_ble_eq_true rfl) (cs_rf cs_nil) (by decide) [.int l2] hb9 (by decide) rfl rfl rfl (sX0_bendOf hγ l0 l2 q5 q8 hq8) ?_
      obtain ⟨v10, hv10, h⟩ := some_of_bind h
      refine J_iald 33 dX0_hull_32 rfl hv10 ?_
      refine J_istore_n (i := 3) 34 [(3, 1, .int v10), (0, 1, va_rf l0), (1, 1, .int l1), (2, 1, .int l2)] dX0_hull_33 rfl rfl (Nat.le_of_ble_eq_true rfl) rfl ?_
      refine J_aload_n (i := 0) 1 35 dX0_hull_34 rfl rfl rfl ?_
      obtain ⟨v11, hv11, h⟩ := some_of_bind h
      refine J_gR 38 dX0_hull_35 rfl fk_z_261 hv11 ?_
      refine J_aload_n (i := 0) 1 39 dX0_hull_38 rfl rfl rfl ?_
      refine J_iload_n (i := 2) 3 40 dX0_hull_39 rfl rfl rfl ?_
      obtain ⟨b13, hb13, h⟩ := some_of_bind h
      obtain ⟨q12, hq12, h⟩ := some_of_bind h
      refine J_cVi 43 dX0_hull_40 rfl ykX0_bendOf (Or.inl q1660) q1662 qs29 (Nat.le_of_ble_eq_true rfl) (cs_rf cs_nil) (by decide) [.int l2] hb13 (by decide) rfl rfl rfl (sX0_bendOf hγ l0 l2 q8.2 q12 hq12) ?_
      refine J_ic 44 dX0_hull_43 rfl (1 : Int32) kic_1 ?_
      refine J_iadd 45 dX0_hull_44 rfl ?_
      obtain ⟨v14, hv14, h⟩ := some_of_bind h
      refine J_iald 46 dX0_hull_45 rfl hv14 ?_
      refine J_istore (i := 4) 48 [(4, 1, .int v14), (3, 1, .int v10), (0, 1, va_rf l0), (1, 1, .int l1), (2, 1, .int l2)] dX0_hull_46 rfl (Nat.le_of_ble_eq_true rfl) rfl ?_
      refine J_ldc2 (v := (1000 : Int64)) 51 dX0_hull_48 rfl q1664 ?_
      refine J_aload_n (i := 0) 2 52 dX0_hull_51 rfl rfl rfl ?_
      obtain ⟨v15, hv15, h⟩ := some_of_bind h
      refine J_gR 55 dX0_hull_52 rfl fk_z_259 hv15 ?_
      refine J_iload_n (i := 3) 1 56 dX0_hull_55 rfl rfl rfl ?_
      obtain ⟨v16, hv16, h⟩ := some_of_bind h
      refine J_iald 57 dX0_hull_56 rfl hv16 ?_
      refine J_i2l 58 dX0_hull_57 rfl ?_
      refine J_iload (i := 4) 0 60 dX0_hull_58 rfl rfl ?_
      refine J_iload_n (i := 2) 4 61 dX0_hull_60 rfl rfl rfl ?_
      refine J_isub 62 dX0_hull_61 rfl ?_
      refine J_i2l 63 dX0_hull_62 rfl ?_
      refine J_lmul 64 dX0_hull_63 rfl ?_
      refine J_aload_n (i := 0) 2 65 dX0_hull_64 rfl rfl rfl ?_
      obtain ⟨v17, hv17, h⟩ := some_of_bind h
      refine J_gR 68 dX0_hull_65 rfl fk_z_259 hv17 ?_
      refine J_iload (i := 4) 0 70 dX0_hull_68 rfl rfl ?_
      obtain ⟨v18, hv18, h⟩ := some_of_bind h
      refine J_iald 71 dX0_hull_70 rfl hv18 ?_
      refine J_i2l 72 dX0_hull_71 rfl ?_
      refine J_iload_n (i := 2) 4 73 dX0_hull_72 rfl rfl rfl ?_
      refine J_iload_n (i := 3) 1 74 dX0_hull_73 rfl rfl rfl ?_
      refine J_isub 75 dX0_hull_74 rfl ?_
      refine J_i2l 76 dX0_hull_75 rfl ?_
      refine J_lmul 77 dX0_hull_76 rfl ?_
      refine J_ladd 78 dX0_hull_77 rfl ?_
      refine J_lmul 79 dX0_hull_78 rfl ?_
      refine J_iload (i := 4) 0 81 dX0_hull_79 rfl rfl ?_
      refine J_iload_n (i := 3) 1 82 dX0_hull_81 rfl rfl rfl ?_
      refine J_isub 83 dX0_hull_82 rfl ?_
      refine J_i2l 84 dX0_hull_83 rfl ?_
      rcases Classical.em (((v14 - v10).toInt64) = 0) with c19 | c19
      · rw [if_pos c19] at h; cases h
      · rw [if_neg c19] at h
        refine J_ldiv 85 dX0_hull_84 rfl c19 ?_
        exact J_lret rfl dX0_hull_85 (retL h)
    · rw [if_pos c4] at h
      refine J.pick [] rfl ?_
      exact jX0_hull_c14 hγ   q3.2 h
abbrev mX0_image : MP := (cX0_image, "MissCurves", 2, (Option.some FieldType.int), 6, "image", [])
theorem ykX0_image : YK yX0_image mX0_image 1 := ⟨q2158, q128, ⟨by decide, by decide⟩, by decide +kernel, Nat.le_of_ble_eq_true rfl, by decide, rfl, rfl⟩
def X0_image (l0 : Option Nat) (l1 : Int32) (σ : Hp) : Option (Int32 × Hp) :=
  (X0_in l1.toInt64 (0 : Int64) (1 : Int64) σ).bind fun q1 =>
  if q1.1 = 0 then
    (cT q1.2 l0 0).bind fun b11 =>
    (X0_tell l0 (-1 : Int32) q1.2).bind fun q10 =>
    some (q10.1, q10.2)
  else
    (gR q1.2 l0 [0] 1).bind fun v3 =>
    (gR q1.2 l0 [0] 0).bind fun v4 =>
    (cT q1.2 v4 1).bind fun b6 =>
    (X1_copy v4  q1.2).bind fun q5 =>
    (sR 9 q5.2 v3 l1 q5.1).bind fun σ7 =>
    (cT σ7 l0 0).bind fun b9 =>
    (X0_tell l0 (0 : Int32) σ7).bind fun q8 =>
    some (q8.1, q8.2)
set_option maxHeartbeats 4000000 in
theorem sX0_image {γ : GP} (hγ : GOK γ) (l0 : Option Nat) (l1 : Int32) (σ : Hp) (q : (Int32 × Hp)) (h : X0_image l0 l1 σ = some q) : Rn γ mX0_image yX0_image [va_rf l0, .int l1] (σ, .inr (some (.int q.1)), q.2) := by
  refine J_m hγ ykX0_image rfl [(1, va_rf l0), (1, .int l1)] (cats_r (cats_i cats_nil)) (Nat.le_of_ble_eq_true rfl) ?_
  show J γ mX0_image _ σ 0 [(0, 1, va_rf l0), (1, 1, .int l1)] []
  unfold X0_image at h
  refine J_iload_n (i := 1) 1 1 dX0_image_0 rfl rfl rfl ?_
  refine J_i2l 2 dX0_image_1 rfl ?_
  refine J_lconst 3 dX0_image_2 rfl (0 : Int64) rfl ?_
  refine J_lconst 4 dX0_image_3 rfl (1 : Int64) rfl ?_
  obtain ⟨q1, hq1, h⟩ := some_of_bind h
  refine J_cSi 7 dX0_image_4 rfl ykX0_in (Or.inl q484) q485 (Nat.le_of_ble_eq_true rfl) cs_nil (by decide) [.long l1.toInt64, .long (0 : Int64), .long (1 : Int64)] rfl rfl (sX0_in hγ l1.toInt64 (0 : Int64) (1 : Int64) σ q1 hq1) ?_
  refine J_if_ne 16 10 dX0_image_7 (by decide) rfl (fun c2 => ?_) (fun c2 => ?_)
  · rw [if_neg c2] at h
    refine J_aload_n (i := 0) 0 17 dX0_image_16 rfl rfl rfl ?_
    obtain ⟨v3, hv3, h⟩ := some_of_bind h
    refine J_gR 20 dX0_image_17 rfl fk_z_255 hv3 ?_
    refine J_iload_n (i := 1) 1 21 dX0_image_20 rfl rfl rfl ?_
    refine J_aload_n (i := 0) 0 22 dX0_image_21 rfl rfl rfl ?_
    obtain ⟨v4, hv4, h⟩ := some_of_bind h
    refine J_gR 25 dX0_image_22 rfl fk_x_133 hv4 ?_
    obtain ⟨b6, hb6, h⟩ := some_of_bind h
    obtain ⟨q5, hq5, h⟩ := some_of_bind h
    refine J_cVr 28 dX0_image_25 rfl ykX1_copy (Or.inl q2159) q2160 q2161 (Nat.le_of_ble_eq_true rfl) (cs_int (cs_rf cs_nil)) (by decide) [] hb6 (by decide) rfl rfl rfl (sX1_copy hγ v4  q1.2 q5 hq5) ?_
    obtain ⟨σ7, hσ7, h⟩ := some_of_bind h
    refine J_aast 9 (by decide) (by decide) 29 dX0_image_28 rfl hσ7 ?_
    refine J_aload_n (i := 0) 0 30 dX0_image_29 rfl rfl rfl ?_
    refine J_ic 31 dX0_image_30 rfl (0 : Int32) kic_0 ?_
    obtain ⟨b9, hb9, h⟩ := some_of_bind h
    obtain ⟨q8, hq8, h⟩ := some_of_bind h
    refine J_cVi 34 dX0_image_31 rfl ykX0_tell (Or.inl q630) q632 qs7 (Nat.le_of_ble_eq_true rfl) cs_nil (by decide) [.int (0 : Int32)] hb9 (by decide) rfl rfl rfl (sX0_tell hγ l0 (0 : Int32) σ7 q8 hq8) ?_
    exact J_iret rfl dX0_image_34 (retI h)
  · rw [if_pos c2] at h
    refine J_aload_n (i := 0) 0 11 dX0_image_10 rfl rfl rfl ?_
    refine J_ic 12 dX0_image_11 rfl (-1 : Int32) kic_m1 ?_
    obtain ⟨b11, hb11, h⟩ := some_of_bind h
    obtain ⟨q10, hq10, h⟩ := some_of_bind h
    refine J_cVi 15 dX0_image_12 rfl ykX0_tell (Or.inl q630) q632 qs7 (Nat.le_of_ble_eq_true rfl) cs_nil (by decide) [.int (-1 : Int32)] hb11 (by decide) rfl rfl rfl (sX0_tell hγ l0 (-1 : Int32) q1.2 q10 hq10) ?_
    exact J_iret rfl dX0_image_15 (retI h)
abbrev mX0_isBarred : MP := (cX0_isBarred, "MissCurves", 3, (Option.some FieldType.boolean), 108, "isBarred", [])
theorem ykX0_isBarred : YK yX0_isBarred mX0_isBarred 2 := ⟨q616, q128, ⟨by decide, by decide⟩, by decide +kernel, Nat.le_of_ble_eq_true rfl, by decide, rfl, rfl⟩
def X0_isBarred (l0 : Option Nat) (l1 : Int32) (l2 : Int32) (σ : Hp) : Option (Int32 × Hp) :=
  (cT σ l0 0).bind fun b2 =>
  (X0_about l0 l1 l2 σ).bind fun q1 =>
  (cT q1 l0 0).bind fun b4 =>
  (X0_law1 l0  q1).bind fun q3 =>
  (gR q3.2 l0 [0] 6).bind fun v5 =>
  (cT q3.2 q3.1 6).bind fun b7 =>
  (X6_has q3.1 (1 : Int32) v5 q3.2).bind fun q6 =>
  rZ q6.1 q6.2
set_option maxHeartbeats 4000000 in
theorem sX0_isBarred {γ : GP} (hγ : GOK γ) (l0 : Option Nat) (l1 : Int32) (l2 : Int32) (σ : Hp) (q : (Int32 × Hp)) (h : X0_isBarred l0 l1 l2 σ = some q) : Rn γ mX0_isBarred yX0_isBarred [va_rf l0, .int l1, .int l2] (σ, .inr (some (.int q.1)), q.2) := by
  refine J_m hγ ykX0_isBarred rfl [(1, va_rf l0), (1, .int l1), (1, .int l2)] (cats_r (cats_i (cats_i cats_nil))) (Nat.le_of_ble_eq_true rfl) ?_
  show J γ mX0_isBarred _ σ 0 [(0, 1, va_rf l0), (1, 1, .int l1), (2, 1, .int l2)] []
  unfold X0_isBarred at h
  refine J_aload_n (i := 0) 0 1 dX0_isBarred_0 rfl rfl rfl ?_
  refine J_iload_n (i := 1) 1 2 dX0_isBarred_1 rfl rfl rfl ?_
  refine J_iload_n (i := 2) 2 3 dX0_isBarred_2 rfl rfl rfl ?_
  obtain ⟨b2, hb2, h⟩ := some_of_bind h
  obtain ⟨q1, hq1, h⟩ := some_of_bind h
  refine J_cVv 6 dX0_isBarred_3 rfl ykX0_about (Or.inl q535) q537 qs4 (Nat.le_of_ble_eq_true rfl) cs_nil (by decide) [.int l1, .int l2] hb2 (by decide) rfl rfl rfl (sX0_about hγ l0 l1 l2 σ q1 hq1) ?_
  refine J_aload_n (i := 0) 0 7 dX0_isBarred_6 rfl rfl rfl ?_
  obtain ⟨b4, hb4, h⟩ := some_of_bind h
  obtain ⟨q3, hq3, h⟩ := some_of_bind h
  refine J_cVr 10 dX0_isBarred_7 rfl ykX0_law1 (Or.inl q543) q545 qs5 (Nat.le_of_ble_eq_true rfl) cs_nil (by decide) [] hb4 (by decide) rfl rfl rfl (sX0_law1 hγ l0  q1 q3 hq3) ?_
  refine J_ic 11 dX0_isBarred_10 rfl (1 : Int32) kic_1 ?_
  refine J_aload_n (i := 0) 0 12 dX0_isBarred_11 rfl rfl rfl ?_
  obtain ⟨v5, hv5, h⟩ := some_of_bind h
  refine J_gR 15 dX0_isBarred_12 rfl fk_z_230 hv5 ?_
  obtain ⟨b7, hb7, h⟩ := some_of_bind h
  obtain ⟨q6, hq6, h⟩ := some_of_bind h
  refine J_cVi 18 dX0_isBarred_15 rfl ykX6_has (Or.inl q617) q618 q619 (Nat.le_of_ble_eq_true rfl) cs_nil (by decide) [.int (1 : Int32), va_rf v5] hb7 (by decide) rfl rfl rfl (sX6_has hγ q3.1 (1 : Int32) v5 q3.2 q6 hq6) ?_
  exact J_zret rfl (ite_some h).1 dX0_isBarred_18 (retZ h)
abbrev mX0_isDigit : MP := (cX0_isDigit, "MissCurves", 1, (Option.some FieldType.boolean), 0, "isDigit", [])
theorem ykX0_isDigit : YK yX0_isDigit mX0_isDigit 1 := ⟨q1131, q128, ⟨by decide, by decide⟩, by decide +kernel, Nat.le_of_ble_eq_true rfl, by decide, rfl, rfl⟩
def X0_isDigit (l0 : Int32) (σ : Hp) : Option (Int32 × Hp) :=
  if l0 < (48 : Int32) then
    some ((0 : Int32), σ)
  else
    if (57 : Int32) < l0 then
      some ((0 : Int32), σ)
    else
      some ((1 : Int32), σ)
set_option maxHeartbeats 4000000 in
theorem sX0_isDigit {γ : GP} (hγ : GOK γ) (l0 : Int32) (σ : Hp) (q : (Int32 × Hp)) (h : X0_isDigit l0 σ = some q) : Rn γ mX0_isDigit yX0_isDigit [.int l0] (σ, .inr (some (.int q.1)), q.2) := by
  refine J_m hγ ykX0_isDigit rfl [(1, .int l0)] (cats_i cats_nil) (Nat.le_of_ble_eq_true rfl) ?_
  show J γ mX0_isDigit _ σ 0 [(0, 1, .int l0)] []
  unfold X0_isDigit at h
  refine J_iload_n (i := 0) 0 1 dX0_isDigit_0 rfl rfl rfl ?_
  refine J_bipush 3 dX0_isDigit_1 rfl (48 : Int32) kbp_48 ?_
  refine J_icmp_lt 16 6 dX0_isDigit_3 (by decide) rfl (fun c1 => ?_) (fun c1 => ?_)
  · rw [if_pos c1] at h
    refine J_ic 17 dX0_isDigit_16 rfl (0 : Int32) kic_0 ?_
    exact J_zret rfl (by decide) dX0_isDigit_17 (retI h)
  · rw [if_neg c1] at h
    refine J_iload_n (i := 0) 0 7 dX0_isDigit_6 rfl rfl rfl ?_
    refine J_bipush 9 dX0_isDigit_7 rfl (57 : Int32) kbp_57 ?_
    refine J_icmp_gt 16 12 dX0_isDigit_9 (by decide) rfl (fun c3 => ?_) (fun c3 => ?_)
    · rw [if_pos c3] at h
      refine J_ic 17 dX0_isDigit_16 rfl (0 : Int32) kic_0 ?_
      exact J_zret rfl (by decide) dX0_isDigit_17 (retI h)
    · rw [if_neg c3] at h
      refine J_ic 13 dX0_isDigit_12 rfl (1 : Int32) kic_1 ?_
      refine J_goto 17 dX0_isDigit_13 (by decide) ?_
      exact J_zret rfl (by decide) dX0_isDigit_17 (retI h)
abbrev mX0_isLetter : MP := (cX0_isLetter, "MissCurves", 1, (Option.some FieldType.boolean), 0, "isLetter", [])
theorem ykX0_isLetter : YK yX0_isLetter mX0_isLetter 1 := ⟨q1128, q128, ⟨by decide, by decide⟩, by decide +kernel, Nat.le_of_ble_eq_true rfl, by decide, rfl, rfl⟩
def X0_isLetter (l0 : Int32) (σ : Hp) : Option (Int32 × Hp) :=
  if l0 < (97 : Int32) then
    some ((0 : Int32), σ)
  else
    if (122 : Int32) < l0 then
      some ((0 : Int32), σ)
    else
      some ((1 : Int32), σ)
set_option maxHeartbeats 4000000 in
theorem sX0_isLetter {γ : GP} (hγ : GOK γ) (l0 : Int32) (σ : Hp) (q : (Int32 × Hp)) (h : X0_isLetter l0 σ = some q) : Rn γ mX0_isLetter yX0_isLetter [.int l0] (σ, .inr (some (.int q.1)), q.2) := by
  refine J_m hγ ykX0_isLetter rfl [(1, .int l0)] (cats_i cats_nil) (Nat.le_of_ble_eq_true rfl) ?_
  show J γ mX0_isLetter _ σ 0 [(0, 1, .int l0)] []
  unfold X0_isLetter at h
  refine J_iload_n (i := 0) 0 1 dX0_isLetter_0 rfl rfl rfl ?_
  refine J_bipush 3 dX0_isLetter_1 rfl (97 : Int32) kbp_97 ?_
  refine J_icmp_lt 16 6 dX0_isLetter_3 (by decide) rfl (fun c1 => ?_) (fun c1 => ?_)
  · rw [if_pos c1] at h
    refine J_ic 17 dX0_isLetter_16 rfl (0 : Int32) kic_0 ?_
    exact J_zret rfl (by decide) dX0_isLetter_17 (retI h)
  · rw [if_neg c1] at h
    refine J_iload_n (i := 0) 0 7 dX0_isLetter_6 rfl rfl rfl ?_
    refine J_bipush 9 dX0_isLetter_7 rfl (122 : Int32) kbp_122 ?_
    refine J_icmp_gt 16 12 dX0_isLetter_9 (by decide) rfl (fun c3 => ?_) (fun c3 => ?_)
    · rw [if_pos c3] at h
      refine J_ic 17 dX0_isLetter_16 rfl (0 : Int32) kic_0 ?_
      exact J_zret rfl (by decide) dX0_isLetter_17 (retI h)
    · rw [if_neg c3] at h
      refine J_ic 13 dX0_isLetter_12 rfl (1 : Int32) kic_1 ?_
      refine J_goto 17 dX0_isLetter_13 (by decide) ?_
      exact J_zret rfl (by decide) dX0_isLetter_17 (retI h)
abbrev mX0_isTerm : MP := (cX0_isTerm, "MissCurves", 2, (Option.some FieldType.boolean), 1, "isTerm", [])
theorem ykX0_isTerm : YK yX0_isTerm mX0_isTerm 2 := ⟨q627, q128, ⟨by decide, by decide⟩, by decide +kernel, Nat.le_of_ble_eq_true rfl, by decide, rfl, rfl⟩
def X0_isTerm (l0 : Int32) (l1 : Int32) (σ : Hp) : Option (Int32 × Hp) :=
  if l0 = (0 : Int32) then
    (X0_in l1.toInt64 (0 : Int64) (999 : Int64) σ).bind fun q2 =>
    rZ q2.1 q2.2
  else
  if l0 = (1 : Int32) then
    (X0_in l1.toInt64 (0 : Int64) (10 : Int64) σ).bind fun q5 =>
    rZ q5.1 q5.2
  else
  if l0 = (2 : Int32) then
    (X0_in l1.toInt64 (0 : Int64) (9 : Int64) σ).bind fun q8 =>
    rZ q8.1 q8.2
  else
  if l0 = (3 : Int32) then
    (X0_in l1.toInt64 (0 : Int64) (999 : Int64) σ).bind fun q11 =>
    rZ q11.1 q11.2
  else
  some ((0 : Int32), σ)
set_option maxHeartbeats 4000000 in
theorem sX0_isTerm {γ : GP} (hγ : GOK γ) (l0 : Int32) (l1 : Int32) (σ : Hp) (q : (Int32 × Hp)) (h : X0_isTerm l0 l1 σ = some q) : Rn γ mX0_isTerm yX0_isTerm [.int l0, .int l1] (σ, .inr (some (.int q.1)), q.2) := by
  refine J_m hγ ykX0_isTerm rfl [(1, .int l0), (1, .int l1)] (cats_i (cats_i cats_nil)) (Nat.le_of_ble_eq_true rfl) ?_
  show J γ mX0_isTerm _ σ 0 [(0, 1, .int l0), (1, 1, .int l1)] []
  unfold X0_isTerm at h
  refine J_iload_n (i := 0) 0 1 dX0_isTerm_0 rfl rfl rfl ?_
  rcases Classical.em (l0 = (0 : Int32)) with c1 | c1
  · rw [if_pos c1] at h
    refine J_tsC c1 32 dX0_isTerm_1 (by decide) (by decide) rfl (by decide) ?_
    refine J_iload_n (i := 1) 1 33 dX0_isTerm_32 rfl rfl rfl ?_
    refine J_i2l 34 dX0_isTerm_33 rfl ?_
    refine J_lconst 35 dX0_isTerm_34 rfl (0 : Int64) rfl ?_
    refine J_ldc2 (v := (999 : Int64)) 38 dX0_isTerm_35 rfl q516 ?_
    obtain ⟨q2, hq2, h⟩ := some_of_bind h
    refine J_cSi 41 dX0_isTerm_38 rfl ykX0_in (Or.inl q484) q485 (Nat.le_of_ble_eq_true rfl) cs_nil (by decide) [.long l1.toInt64, .long (0 : Int64), .long (999 : Int64)] rfl rfl (sX0_in hγ l1.toInt64 (0 : Int64) (999 : Int64) σ q2 hq2) ?_
    exact J_zret rfl (ite_some h).1 dX0_isTerm_41 (retZ h)
  · rw [if_neg c1] at h
    rcases Classical.em (l0 = (1 : Int32)) with c4 | c4
    · rw [if_pos c4] at h
      refine J_tsC c4 42 dX0_isTerm_1 (by decide) (by decide) rfl (by decide) ?_
      refine J_iload_n (i := 1) 1 43 dX0_isTerm_42 rfl rfl rfl ?_
      refine J_i2l 44 dX0_isTerm_43 rfl ?_
      refine J_lconst 45 dX0_isTerm_44 rfl (0 : Int64) rfl ?_
      refine J_ldc2 (v := (10 : Int64)) 48 dX0_isTerm_45 rfl q628 ?_
      obtain ⟨q5, hq5, h⟩ := some_of_bind h
      refine J_cSi 51 dX0_isTerm_48 rfl ykX0_in (Or.inl q484) q485 (Nat.le_of_ble_eq_true rfl) cs_nil (by decide) [.long l1.toInt64, .long (0 : Int64), .long (10 : Int64)] rfl rfl (sX0_in hγ l1.toInt64 (0 : Int64) (10 : Int64) σ q5 hq5) ?_
      exact J_zret rfl (ite_some h).1 dX0_isTerm_51 (retZ h)
    · rw [if_neg c4] at h
      rcases Classical.em (l0 = (2 : Int32)) with c7 | c7
      · rw [if_pos c7] at h
        refine J_tsC c7 52 dX0_isTerm_1 (by decide) (by decide) rfl (by decide) ?_
        refine J_iload_n (i := 1) 1 53 dX0_isTerm_52 rfl rfl rfl ?_
        refine J_i2l 54 dX0_isTerm_53 rfl ?_
        refine J_lconst 55 dX0_isTerm_54 rfl (0 : Int64) rfl ?_
        refine J_ldc2 (v := (9 : Int64)) 58 dX0_isTerm_55 rfl q629 ?_
        obtain ⟨q8, hq8, h⟩ := some_of_bind h
        refine J_cSi 61 dX0_isTerm_58 rfl ykX0_in (Or.inl q484) q485 (Nat.le_of_ble_eq_true rfl) cs_nil (by decide) [.long l1.toInt64, .long (0 : Int64), .long (9 : Int64)] rfl rfl (sX0_in hγ l1.toInt64 (0 : Int64) (9 : Int64) σ q8 hq8) ?_
        exact J_zret rfl (ite_some h).1 dX0_isTerm_61 (retZ h)
      · rw [if_neg c7] at h
        rcases Classical.em (l0 = (3 : Int32)) with c10 | c10
        · rw [if_pos c10] at h
          refine J_tsC c10 32 dX0_isTerm_1 (by decide) (by decide) rfl (by decide) ?_
          refine J_iload_n (i := 1) 1 33 dX0_isTerm_32 rfl rfl rfl ?_
          refine J_i2l 34 dX0_isTerm_33 rfl ?_
          refine J_lconst 35 dX0_isTerm_34 rfl (0 : Int64) rfl ?_
          refine J_ldc2 (v := (999 : Int64)) 38 dX0_isTerm_35 rfl q516 ?_
          obtain ⟨q11, hq11, h⟩ := some_of_bind h
          refine J_cSi 41 dX0_isTerm_38 rfl ykX0_in (Or.inl q484) q485 (Nat.le_of_ble_eq_true rfl) cs_nil (by decide) [.long l1.toInt64, .long (0 : Int64), .long (999 : Int64)] rfl rfl (sX0_in hγ l1.toInt64 (0 : Int64) (999 : Int64) σ q11 hq11) ?_
          exact J_zret rfl (ite_some h).1 dX0_isTerm_41 (retZ h)
        · rw [if_neg c10] at h
          refine J_tsOut 62 dX0_isTerm_1 (by have a0 := lv_neT c1 (a := 0) (by decide); have a1 := lv_neT c4 (a := 1) (by decide); have a2 := lv_neT c7 (a := 2) (by decide); have a3 := lv_neT c10 (a := 3) (by decide); omega) (by decide) ?_
          refine J_ic 63 dX0_isTerm_62 rfl (0 : Int32) kic_0 ?_
          exact J_zret rfl (by decide) dX0_isTerm_63 (retI h)
abbrev mX0_key : MP := (cX0_key, "MissCurves", 4, (Option.some FieldType.int), 109, "key", [])
theorem ykX0_key : YK yX0_key mX0_key 3 := ⟨q512, q128, ⟨by decide, by decide⟩, by decide +kernel, Nat.le_of_ble_eq_true rfl, by decide, rfl, rfl⟩
def X0_key (l0 : Option Nat) (l1 : Int32) (l2 : Int32) (l3 : Int32) (σ : Hp) : Option (Int32 × Hp) :=
  (X0_isTenant l1 σ).bind fun q1 =>
  if q1.1 = 0 then
    some ((-1 : Int32), q1.2)
  else
    (X0_isKey l2 q1.2).bind fun q3 =>
    if q3.1 = 0 then
      some ((-1 : Int32), q3.2)
    else
      if l3 = (0 : Int32) then
        (cT q3.2 l0 0).bind fun b7 =>
        (X0_book l0 l1 q3.2).bind fun q6 =>
        (cT q6.2 q6.1 3).bind fun b9 =>
        (X3_place q6.1 l2 q6.2).bind fun q8 =>
        some (q8.1, q8.2)
      else
      if l3 = (1 : Int32) then
        (cT q3.2 l0 0).bind fun b12 =>
        (X0_book l0 l1 q3.2).bind fun q11 =>
        (cT q11.2 q11.1 3).bind fun b14 =>
        (X3_placeSampled q11.1 l2 q11.2).bind fun q13 =>
        some (q13.1, q13.2)
      else
      if l3 = (2 : Int32) then
        (gR q3.2 l0 [0] 0).bind fun v16 =>
        (gR q3.2 v16 [1] 1).bind fun v17 =>
        (aI 0 q3.2 v17 (3 : Int32)).bind fun v18 =>
        (X0_hashOf l2 v18 q3.2).bind fun q19 =>
        some (q19.1, q19.2)
      else
      if l3 = (3 : Int32) then
        (cT q3.2 l0 0).bind fun b22 =>
        (X0_costs l0 l1 l2 q3.2).bind fun q21 =>
        some (q21.1, q21.2)
      else
      if l3 = (4 : Int32) then
        (cT q3.2 l0 0).bind fun b25 =>
        (X0_isBarred l0 l1 l2 q3.2).bind fun q24 =>
        if q24.1 = 0 then
          some ((0 : Int32), q24.2)
        else
          some ((1 : Int32), q24.2)
      else
      some ((-1 : Int32), q3.2)
set_option maxHeartbeats 4000000 in
theorem sX0_key {γ : GP} (hγ : GOK γ) (l0 : Option Nat) (l1 : Int32) (l2 : Int32) (l3 : Int32) (σ : Hp) (q : (Int32 × Hp)) (h : X0_key l0 l1 l2 l3 σ = some q) : Rn γ mX0_key yX0_key [va_rf l0, .int l1, .int l2, .int l3] (σ, .inr (some (.int q.1)), q.2) := by
  refine J_m hγ ykX0_key rfl [(1, va_rf l0), (1, .int l1), (1, .int l2), (1, .int l3)] (cats_r (cats_i (cats_i (cats_i cats_nil)))) (Nat.le_of_ble_eq_true rfl) ?_
  show J γ mX0_key _ σ 0 [(0, 1, va_rf l0), (1, 1, .int l1), (2, 1, .int l2), (3, 1, .int l3)] []
  unfold X0_key at h
  refine J_iload_n (i := 1) 1 1 dX0_key_0 rfl rfl rfl ?_
  obtain ⟨q1, hq1, h⟩ := some_of_bind h
  refine J_cSi 4 dX0_key_1 rfl ykX0_isTenant (Or.inl q491) q492 (Nat.le_of_ble_eq_true rfl) cs_nil (by decide) [.int l1] rfl rfl (sX0_isTenant hγ l1 σ q1 hq1) ?_
  refine J_if_eq 14 7 dX0_key_4 (by decide) rfl (fun c2 => ?_) (fun c2 => ?_)
  · rw [if_pos c2] at h
    refine J_ic 15 dX0_key_14 rfl (-1 : Int32) kic_m1 ?_
    exact J_iret rfl dX0_key_15 (retI h)
  · rw [if_neg c2] at h
    refine J_iload_n (i := 2) 2 8 dX0_key_7 rfl rfl rfl ?_
    obtain ⟨q3, hq3, h⟩ := some_of_bind h
    refine J_cSi 11 dX0_key_8 rfl ykX0_isKey (Or.inl q513) q514 (Nat.le_of_ble_eq_true rfl) cs_nil (by decide) [.int l2] rfl rfl (sX0_isKey hγ l2 q1.2 q3 hq3) ?_
    refine J_if_ne 16 14 dX0_key_11 (by decide) rfl (fun c4 => ?_) (fun c4 => ?_)
    · rw [if_neg c4] at h
      refine J_iload_n (i := 3) 3 17 dX0_key_16 rfl rfl rfl ?_
      rcases Classical.em (l3 = (0 : Int32)) with c5 | c5
      · rw [if_pos c5] at h
        refine J_tsC c5 52 dX0_key_17 (by decide) (by decide) rfl (by decide) ?_
        refine J_aload_n (i := 0) 0 53 dX0_key_52 rfl rfl rfl ?_
        refine J_iload_n (i := 1) 1 54 dX0_key_53 rfl rfl rfl ?_
        obtain ⟨b7, hb7, h⟩ := some_of_bind h
        obtain ⟨q6, hq6, h⟩ := some_of_bind h
        refine J_cVr 57 dX0_key_54 rfl ykX0_book (Or.inl q495) q497 qs1 (Nat.le_of_ble_eq_true rfl) cs_nil (by decide) [.int l1] hb7 (by decide) rfl rfl rfl (sX0_book hγ l0 l1 q3.2 q6 hq6) ?_
        refine J_iload_n (i := 2) 2 58 dX0_key_57 rfl rfl rfl ?_
        obtain ⟨b9, hb9, h⟩ := some_of_bind h
        obtain ⟨q8, hq8, h⟩ := some_of_bind h
        refine J_cVi 61 dX0_key_58 rfl ykX3_place (Or.inl q517) q518 q519 (Nat.le_of_ble_eq_true rfl) cs_nil (by decide) [.int l2] hb9 (by decide) rfl rfl rfl (sX3_place hγ q6.1 l2 q6.2 q8 hq8) ?_
        exact J_iret rfl dX0_key_61 (retI h)
      · rw [if_neg c5] at h
        rcases Classical.em (l3 = (1 : Int32)) with c10 | c10
        · rw [if_pos c10] at h
          refine J_tsC c10 62 dX0_key_17 (by decide) (by decide) rfl (by decide) ?_
          refine J_aload_n (i := 0) 0 63 dX0_key_62 rfl rfl rfl ?_
          refine J_iload_n (i := 1) 1 64 dX0_key_63 rfl rfl rfl ?_
          obtain ⟨b12, hb12, h⟩ := some_of_bind h
          obtain ⟨q11, hq11, h⟩ := some_of_bind h
          refine J_cVr 67 dX0_key_64 rfl ykX0_book (Or.inl q495) q497 qs1 (Nat.le_of_ble_eq_true rfl) cs_nil (by decide) [.int l1] hb12 (by decide) rfl rfl rfl (sX0_book hγ l0 l1 q3.2 q11 hq11) ?_
          refine J_iload_n (i := 2) 2 68 dX0_key_67 rfl rfl rfl ?_
          obtain ⟨b14, hb14, h⟩ := some_of_bind h
          obtain ⟨q13, hq13, h⟩ := some_of_bind h
          refine J_cVi 71 dX0_key_68 rfl ykX3_placeSampled (Or.inl q524) q525 q526 (Nat.le_of_ble_eq_true rfl) cs_nil (by decide) [.int l2] hb14 (by decide) rfl rfl rfl (sX3_placeSampled hγ q11.1 l2 q11.2 q13 hq13) ?_
          exact J_iret rfl dX0_key_71 (retI h)
        · rw [if_neg c10] at h
          rcases Classical.em (l3 = (2 : Int32)) with c15 | c15
          · rw [if_pos c15] at h
            refine J_tsC c15 72 dX0_key_17 (by decide) (by decide) rfl (by decide) ?_
            refine J_iload_n (i := 2) 2 73 dX0_key_72 rfl rfl rfl ?_
            refine J_aload_n (i := 0) 0 74 dX0_key_73 rfl rfl rfl ?_
            obtain ⟨v16, hv16, h⟩ := some_of_bind h
            refine J_gR 77 dX0_key_74 rfl fk_x_133 hv16 ?_
            obtain ⟨v17, hv17, h⟩ := some_of_bind h
            refine J_gR 80 dX0_key_77 rfl fk_z_233 hv17 ?_
            refine J_ic 81 dX0_key_80 rfl (3 : Int32) kic_3 ?_
            obtain ⟨v18, hv18, h⟩ := some_of_bind h
            refine J_iald 82 dX0_key_81 rfl hv18 ?_
            obtain ⟨q19, hq19, h⟩ := some_of_bind h
            refine J_cSi 85 dX0_key_82 rfl ykX0_hashOf (Or.inl q528) q529 (Nat.le_of_ble_eq_true rfl) cs_nil (by decide) [.int l2, .int v18] rfl rfl (sX0_hashOf hγ l2 v18 q3.2 q19 hq19) ?_
            exact J_iret rfl dX0_key_85 (retI h)
          · rw [if_neg c15] at h
            rcases Classical.em (l3 = (3 : Int32)) with c20 | c20
            · rw [if_pos c20] at h
              refine J_tsC c20 86 dX0_key_17 (by decide) (by decide) rfl (by decide) ?_
              refine J_aload_n (i := 0) 0 87 dX0_key_86 rfl rfl rfl ?_
              refine J_iload_n (i := 1) 1 88 dX0_key_87 rfl rfl rfl ?_
              refine J_iload_n (i := 2) 2 89 dX0_key_88 rfl rfl rfl ?_
              obtain ⟨b22, hb22, h⟩ := some_of_bind h
              obtain ⟨q21, hq21, h⟩ := some_of_bind h
              refine J_cVi 92 dX0_key_89 rfl ykX0_costs (Or.inl q531) q533 qs3 (Nat.le_of_ble_eq_true rfl) cs_nil (by decide) [.int l1, .int l2] hb22 (by decide) rfl rfl rfl (sX0_costs hγ l0 l1 l2 q3.2 q21 hq21) ?_
              exact J_iret rfl dX0_key_92 (retI h)
            · rw [if_neg c20] at h
              rcases Classical.em (l3 = (4 : Int32)) with c23 | c23
              · rw [if_pos c23] at h
                refine J_tsC c23 93 dX0_key_17 (by decide) (by decide) rfl (by decide) ?_
                refine J_aload_n (i := 0) 0 94 dX0_key_93 rfl rfl rfl ?_
                refine J_iload_n (i := 1) 1 95 dX0_key_94 rfl rfl rfl ?_
                refine J_iload_n (i := 2) 2 96 dX0_key_95 rfl rfl rfl ?_
                obtain ⟨b25, hb25, h⟩ := some_of_bind h
                obtain ⟨q24, hq24, h⟩ := some_of_bind h
                refine J_cVi 99 dX0_key_96 rfl ykX0_isBarred (Or.inl q613) q615 qs6 (Nat.le_of_ble_eq_true rfl) cs_nil (by decide) [.int l1, .int l2] hb25 (by decide) rfl rfl rfl (sX0_isBarred hγ l0 l1 l2 q3.2 q24 hq24) ?_
                refine J_if_eq 106 102 dX0_key_99 (by decide) rfl (fun c26 => ?_) (fun c26 => ?_)
                · rw [if_pos c26] at h
                  refine J_ic 107 dX0_key_106 rfl (0 : Int32) kic_0 ?_
                  exact J_iret rfl dX0_key_107 (retI h)
                · rw [if_neg c26] at h
                  refine J_ic 103 dX0_key_102 rfl (1 : Int32) kic_1 ?_
                  refine J_goto 107 dX0_key_103 (by decide) ?_
                  exact J_iret rfl dX0_key_107 (retI h)
              · rw [if_neg c23] at h
                refine J_tsOut 108 dX0_key_17 (by have a0 := lv_neT c5 (a := 0) (by decide); have a1 := lv_neT c10 (a := 1) (by decide); have a2 := lv_neT c15 (a := 2) (by decide); have a3 := lv_neT c20 (a := 3) (by decide); have a4 := lv_neT c23 (a := 4) (by decide); omega) (by decide) ?_
                refine J_ic 109 dX0_key_108 rfl (-1 : Int32) kic_m1 ?_
                exact J_iret rfl dX0_key_109 (retI h)
    · rw [if_pos c4] at h
      refine J_ic 15 dX0_key_14 rfl (-1 : Int32) kic_m1 ?_
      exact J_iret rfl dX0_key_15 (retI h)
abbrev mX0_layFalls : MP := (cX0_layFalls, "MissCurves", 5, (Option.none : Option FieldType), 3, "layFalls", [])
theorem ykX0_layFalls : YK yX0_layFalls mX0_layFalls 0 := ⟨q1829, q128, ⟨by decide, by decide⟩, by decide +kernel, Nat.le_of_ble_eq_true rfl, by decide, rfl, rfl⟩
theorem fk_z_277 : FOK "MissCurves" 103 [0] 21 isR := FOK.one (by decide) rfl (Nat.le_of_ble_eq_true rfl) (Or.inl ⟨_, q405, Or.inl rfl⟩) rfl
theorem fk_z_278 : FOK "MissCurves" 108 [0] 22 isR := FOK.one (by decide) rfl (Nat.le_of_ble_eq_true rfl) (Or.inl ⟨_, q406, Or.inl rfl⟩) rfl
def X0_layFalls_c14 (l0 : Option Nat) (l1 : Int32) (k86 : Hp → Option Hp) : Nat → Int32 → Hp → Option Hp
  | 0, _, _ => none
  | n + 1, l2, σ =>
    if (24 : Int32) ≤ l2 then
      k86  σ
    else
      (gR σ l0 [0] 17).bind fun v2 =>
      (cT σ l0 0).bind fun b4 =>
      (X0_bendOf l0 l2 σ).bind fun q3 =>
      (aI 0 q3.2 v2 q3.1).bind fun v5 =>
      (gR q3.2 l0 [0] 17).bind fun v6 =>
      (cT q3.2 l0 0).bind fun b8 =>
      (X0_bendOf l0 l2 q3.2).bind fun q7 =>
      (aI 0 q7.2 v6 (q7.1 + (1 : Int32))).bind fun v9 =>
      (gR q7.2 l0 [0] 21).bind fun v10 =>
      (aR 6 q7.2 v10 l1).bind fun v11 =>
      (gR q7.2 l0 [0] 16).bind fun v12 =>
      (aI 0 q7.2 v12 v5).bind fun v13 =>
      (gR q7.2 l0 [0] 16).bind fun v14 =>
      (aI 0 q7.2 v14 v9).bind fun v15 =>
      (sL q7.2 v11 l2 ((v13 - v15).toInt64)).bind fun σ16 =>
      (gR σ16 l0 [0] 22).bind fun v17 =>
      (aR 5 σ16 v17 l1).bind fun v18 =>
      (sI 0 σ16 v18 l2 (v9 - v5)).bind fun σ19 =>
      X0_layFalls_c14 l0 l1 k86 n (l2 + (1 : Int32)) σ19
set_option maxHeartbeats 4000000 in
theorem jX0_layFalls_c14 {γ : GP} {σ0 : Hp} {q : Hp} (hγ : GOK γ) (l0 : Option Nat) (l1 : Int32) {k86 : Hp → Option Hp} (hk86 : ∀  (σ : Hp), k86  σ = some q → J γ mX0_layFalls (σ0, .inr none, q) σ 86 [(0, 1, va_rf l0), (1, 1, .int l1)] []) : ∀ (n : Nat) (l2 : Int32) (σ : Hp), X0_layFalls_c14 l0 l1 k86 n l2 σ = some q → J γ mX0_layFalls (σ0, .inr none, q) σ 14 [(0, 1, va_rf l0), (1, 1, .int l1), (2, 1, .int l2)] [] := by
  intro n
  induction n with
  | zero => intro l2 σ h; exact nomatch (show none = some q from h)
  | succ n ih =>
    intro l2 σ h
    rw [X0_layFalls_c14] at h
    refine J_iload_n (i := 2) 2 15 dX0_layFalls_14 rfl rfl rfl ?_
    refine J_bipush 17 dX0_layFalls_15 rfl (24 : Int32) kbp_24 ?_
    refine J_icmp_ge 86 20 dX0_layFalls_17 (by decide) rfl (fun c1 => ?_) (fun c1 => ?_)
    · rw [if_pos c1] at h
      refine J.pick [0, 1] rfl ?_
      exact hk86  σ h
    · rw [if_neg c1] at h
      refine J_aload_n (i := 0) 0 21 dX0_layFalls_20 rfl rfl rfl ?_
      obtain ⟨v2, hv2, h⟩ := some_of_bind h
      refine J_gR 24 dX0_layFalls_21 rfl fk_z_261 hv2 ?_
      refine J_aload_n (i := 0) 0 25 dX0_layFalls_24 rfl rfl rfl ?_
      refine J_iload_n (i := 2) 2 26 dX0_layFalls_25 rfl rfl rfl ?_
      obtain ⟨b4, hb4, h⟩ := some_of_bind h
      obtain ⟨q3, hq3, h⟩ := some_of_bind h
      refine J_cVi 29 dX0_layFalls_26 rfl ykX0_bendOf (Or.inl q1660) q1662 qs29 (Nat.le_of_ble_eq_true rfl) (cs_rf cs_nil) (by decide) [.int l2] hb4 (by decide) rfl rfl rfl (sX0_bendOf hγ l0 l2 σ q3 hq3) ?_
      obtain ⟨v5, hv5, h⟩ := some_of_bind h
      refine J_iald 30 dX0_layFalls_29 rfl hv5 ?_
      refine J_istore_n (i := 3) 31 [(3, 1, .int v5), (0, 1, va_rf l0), (1, 1, .int l1), (2, 1, .int l2)] dX0_layFalls_30 rfl rfl (Nat.le_of_ble_eq_true rfl) rfl ?_
      refine J_aload_n (i := 0) 1 32 dX0_layFalls_31 rfl rfl rfl ?_
      obtain ⟨v6, hv6, h⟩ := some_of_bind h
      refine J_gR 35 dX0_layFalls_32 rfl fk_z_261 hv6 ?_
      refine J_aload_n (i := 0) 1 36 dX0_layFalls_35 rfl rfl rfl ?_
      refine J_iload_n (i := 2) 3 37 dX0_layFalls_36 rfl rfl rfl ?_
      obtain ⟨b8, hb8, h⟩ := some_of_bind h
      obtain ⟨q7, hq7, h⟩ := some_of_bind h
      refine J_cVi 40 dX0_layFalls_37 rfl ykX0_bendOf (Or.inl q1660) q1662 qs29 (Nat.le_of_ble_eq_true rfl) (cs_rf cs_nil) (by decide) [.int l2] hb8 (by decide) rfl rfl rfl (sX0_bendOf hγ l0 l2 q3.2 q7 hq7) ?_
      refine J_ic 41 dX0_layFalls_40 rfl (1 : Int32) kic_1 ?_
      refine J_iadd 42 dX0_layFalls_41 rfl ?_
      obtain ⟨v9, hv9, h⟩ := some_of_bind h
      refine J_iald 43 dX0_layFalls_42 rfl hv9 ?_
      refine J_istore (i := 4) 45 [(4, 1, .int v9), (3, 1, .int v5), (0, 1, va_rf l0), (1, 1, .int l1), (2, 1, .int l2)] dX0_layFalls_43 rfl (Nat.le_of_ble_eq_true rfl) rfl ?_
      refine J_aload_n (i := 0) 2 46 dX0_layFalls_45 rfl rfl rfl ?_
      obtain ⟨v10, hv10, h⟩ := some_of_bind h
      refine J_gR 49 dX0_layFalls_46 rfl fk_z_277 hv10 ?_
      refine J_iload_n (i := 1) 3 50 dX0_layFalls_49 rfl rfl rfl ?_
      obtain ⟨v11, hv11, h⟩ := some_of_bind h
      refine J_aald 6 (by decide) (by decide) rfl 51 dX0_layFalls_50 rfl hv11 ?_
      refine J_iload_n (i := 2) 4 52 dX0_layFalls_51 rfl rfl rfl ?_
      refine J_aload_n (i := 0) 2 53 dX0_layFalls_52 rfl rfl rfl ?_
      obtain ⟨v12, hv12, h⟩ := some_of_bind h
      refine J_gR 56 dX0_layFalls_53 rfl fk_z_259 hv12 ?_
      refine J_iload_n (i := 3) 1 57 dX0_layFalls_56 rfl rfl rfl ?_
      obtain ⟨v13, hv13, h⟩ := some_of_bind h
      refine J_iald 58 dX0_layFalls_57 rfl hv13 ?_
      refine J_aload_n (i := 0) 2 59 dX0_layFalls_58 rfl rfl rfl ?_
      obtain ⟨v14, hv14, h⟩ := some_of_bind h
      refine J_gR 62 dX0_layFalls_59 rfl fk_z_259 hv14 ?_
      refine J_iload (i := 4) 0 64 dX0_layFalls_62 rfl rfl ?_
      obtain ⟨v15, hv15, h⟩ := some_of_bind h
      refine J_iald 65 dX0_layFalls_64 rfl hv15 ?_
      refine J_isub 66 dX0_layFalls_65 rfl ?_
      refine J_i2l 67 dX0_layFalls_66 rfl ?_
      obtain ⟨σ16, hσ16, h⟩ := some_of_bind h
      refine J_last 68 dX0_layFalls_67 rfl hσ16 ?_
      refine J_aload_n (i := 0) 2 69 dX0_layFalls_68 rfl rfl rfl ?_
      obtain ⟨v17, hv17, h⟩ := some_of_bind h
      refine J_gR 72 dX0_layFalls_69 rfl fk_z_278 hv17 ?_
      refine J_iload_n (i := 1) 3 73 dX0_layFalls_72 rfl rfl rfl ?_
      obtain ⟨v18, hv18, h⟩ := some_of_bind h
      refine J_aald 5 (by decide) (by decide) rfl 74 dX0_layFalls_73 rfl hv18 ?_
      refine J_iload_n (i := 2) 4 75 dX0_layFalls_74 rfl rfl rfl ?_
      refine J_iload (i := 4) 0 77 dX0_layFalls_75 rfl rfl ?_
      refine J_iload_n (i := 3) 1 78 dX0_layFalls_77 rfl rfl rfl ?_
      refine J_isub 79 dX0_layFalls_78 rfl ?_
      obtain ⟨σ19, hσ19, h⟩ := some_of_bind h
      refine J_iast 80 dX0_layFalls_79 rfl hσ19 ?_
      refine J_iinc (i := 2) (v := l2 + (1 : Int32)) 4 83 [(2, 1, .int (l2 + (1 : Int32))), (4, 1, .int v9), (3, 1, .int v5), (0, 1, va_rf l0), (1, 1, .int l1)] dX0_layFalls_80 rfl rfl (Nat.le_of_ble_eq_true rfl) (by rw [kic_1]) rfl ?_
      refine J_goto 14 dX0_layFalls_83 (by decide) ?_
      refine J.pick [3, 4, 0] rfl ?_
      exact ih (l2 + (1 : Int32)) σ19 h
def X0_layFalls_c2 (l0 : Option Nat)  : Nat → Int32 → Hp → Option Hp
  | 0, _, _ => none
  | n + 1, l1, σ =>
    if (4 : Int32) ≤ l1 then
      some σ
    else
      (cT σ l0 0).bind fun b3 =>
      (X0_layCurve l0 l1 σ).bind fun q2 =>
      X0_layFalls_c14 l0 l1 (fun τ4 =>
        X0_layFalls_c2 l0 n (l1 + (1 : Int32)) τ4) FUEL (0 : Int32) q2
set_option maxHeartbeats 4000000 in
theorem jX0_layFalls_c2 {γ : GP} {σ0 : Hp} {q : Hp} (hγ : GOK γ) (l0 : Option Nat)  : ∀ (n : Nat) (l1 : Int32) (σ : Hp), X0_layFalls_c2 l0 n l1 σ = some q → J γ mX0_layFalls (σ0, .inr none, q) σ 2 [(0, 1, va_rf l0), (1, 1, .int l1)] [] := by
  intro n
  induction n with
  | zero => intro l1 σ h; exact nomatch (show none = some q from h)
  | succ n ih =>
    intro l1 σ h
    rw [X0_layFalls_c2] at h
    refine J_iload_n (i := 1) 1 3 dX0_layFalls_2 rfl rfl rfl ?_
    refine J_ic 4 dX0_layFalls_3 rfl (4 : Int32) kic_4 ?_
    refine J_icmp_ge 92 7 dX0_layFalls_4 (by decide) rfl (fun c1 => ?_) (fun c1 => ?_)
    · rw [if_pos c1] at h
      exact J_vret rfl dX0_layFalls_92 (retV h)
    · rw [if_neg c1] at h
      refine J_aload_n (i := 0) 0 8 dX0_layFalls_7 rfl rfl rfl ?_
      refine J_iload_n (i := 1) 1 9 dX0_layFalls_8 rfl rfl rfl ?_
      obtain ⟨b3, hb3, h⟩ := some_of_bind h
      obtain ⟨q2, hq2, h⟩ := some_of_bind h
      refine J_cVv 12 dX0_layFalls_9 rfl ykX0_layCurve (Or.inl q1652) q1654 qs27 (Nat.le_of_ble_eq_true rfl) cs_nil (by decide) [.int l1] hb3 (by decide) rfl rfl rfl (sX0_layCurve hγ l0 l1 σ q2 hq2) ?_
      refine J_ic 13 dX0_layFalls_12 rfl (0 : Int32) kic_0 ?_
      refine J_istore_n (i := 2) 14 [(2, 1, .int (0 : Int32)), (0, 1, va_rf l0), (1, 1, .int l1)] dX0_layFalls_13 rfl rfl (Nat.le_of_ble_eq_true rfl) rfl ?_
      refine J.pick [1, 2, 0] rfl ?_
      refine jX0_layFalls_c14 hγ l0 l1 (fun τ4 h => ?_) FUEL (0 : Int32) q2 h
      · refine J_iinc (i := 1) (v := l1 + (1 : Int32)) 1 89 [(1, 1, .int (l1 + (1 : Int32))), (0, 1, va_rf l0)] dX0_layFalls_86 rfl rfl (Nat.le_of_ble_eq_true rfl) (by rw [kic_1]) rfl ?_
        refine J_goto 2 dX0_layFalls_89 (by decide) ?_
        refine J.pick [1, 0] rfl ?_
        exact ih (l1 + (1 : Int32)) τ4 h
def X0_layFalls (l0 : Option Nat) (σ : Hp) : Option Hp :=
  X0_layFalls_c2 l0  FUEL (0 : Int32) σ
set_option maxHeartbeats 4000000 in
theorem sX0_layFalls {γ : GP} (hγ : GOK γ) (l0 : Option Nat) (σ : Hp) (q : Hp) (h : X0_layFalls l0 σ = some q) : Rn γ mX0_layFalls yX0_layFalls [va_rf l0] (σ, .inr none, q) := by
  refine J_m hγ ykX0_layFalls rfl [(1, va_rf l0)] (cats_r cats_nil) (Nat.le_of_ble_eq_true rfl) ?_
  show J γ mX0_layFalls _ σ 0 [(0, 1, va_rf l0)] []
  unfold X0_layFalls at h
  refine J_ic 1 dX0_layFalls_0 rfl (0 : Int32) kic_0 ?_
  refine J_istore_n (i := 1) 2 [(1, 1, .int (0 : Int32)), (0, 1, va_rf l0)] dX0_layFalls_1 rfl rfl (Nat.le_of_ble_eq_true rfl) rfl ?_
  refine J.pick [1, 0] rfl ?_
  refine jX0_layFalls_c2 hγ l0  FUEL (0 : Int32) σ h
abbrev mX0_readIt : MP := (cX0_readIt, "MissCurves", 8, (Option.some FieldType.int), 109, "readIt", [])
theorem ykX0_readIt : YK yX0_readIt mX0_readIt 2 := ⟨q739, q128, ⟨by decide, by decide⟩, by decide +kernel, Nat.le_of_ble_eq_true rfl, by decide, rfl, rfl⟩
theorem fk_z_279 : FOK "MissCurves" 174 [3] 1 isR := FOK.one (by decide) rfl (Nat.le_of_ble_eq_true rfl) (Or.inr ⟨_, q239⟩) rfl
theorem fk_z_280 : FOK "MissCurves" 164 [3] 8 isI := FOK.one (by decide) rfl (Nat.le_of_ble_eq_true rfl) (Or.inr ⟨_, q255⟩) rfl
def X0_readIt_c32  (l0 : Option Nat) (l2 : Int32) (l3 : Option Nat) (l4 : Int32) (s0 : Int32) (σ : Hp) : Option (Int32 × Hp) :=
  (gR σ l0 [0] 0).bind fun v1 =>
  (gR σ v1 [1] 1).bind fun v2 =>
  (aI 0 σ v2 (3 : Int32)).bind fun v3 =>
  (X0_hashOf l2 v3 σ).bind fun q4 =>
  (gR q4.2 l3 [3] 1).bind fun v5 =>
  (aI 0 q4.2 v5 (imax (0 : Int32) s0)).bind fun v6 =>
  (sI 0 q4.2 v5 (imax (0 : Int32) s0) (v6 + l4)).bind fun σ7 =>
  if s0 = (-1 : Int32) then
    some ((0 : Int32), σ7)
  else
    (cT σ7 l3 3).bind fun b10 =>
    (X3_push l3 l2 σ7).bind fun q9 =>
    (gI q9 l3 [3] 8).bind fun v11 =>
    if v11 ≤ q4.1 then
      some (s0, q9)
    else
      (cT q9 l3 3).bind fun b14 =>
      (X3_sampleIt l3 l2 q4.1 l4 v3 q9).bind fun q13 =>
      some (s0, q13)
set_option maxHeartbeats 4000000 in
theorem jX0_readIt_c32 {γ : GP} {σ0 : Hp} {q : (Int32 × Hp)} (hγ : GOK γ) (l0 : Option Nat) (l2 : Int32) (l3 : Option Nat) (l4 : Int32)  (s0 : Int32) (σ : Hp) (h : X0_readIt_c32 l0 l2 l3 l4 s0 σ = some q) : J γ mX0_readIt (σ0, .inr (some (.int q.1)), q.2) σ 32 [(0, 1, va_rf l0), (2, 1, .int l2), (3, 1, va_rf l3), (4, 1, .int l4)] [.int s0] := by
  unfold X0_readIt_c32 at h
  refine J_istore (i := 5) 34 [(5, 1, .int s0), (0, 1, va_rf l0), (2, 1, .int l2), (3, 1, va_rf l3), (4, 1, .int l4)] dX0_readIt_32 rfl (Nat.le_of_ble_eq_true rfl) rfl ?_
  refine J_aload_n (i := 0) 1 35 dX0_readIt_34 rfl rfl rfl ?_
  obtain ⟨v1, hv1, h⟩ := some_of_bind h
  refine J_gR 38 dX0_readIt_35 rfl fk_x_133 hv1 ?_
  obtain ⟨v2, hv2, h⟩ := some_of_bind h
  refine J_gR 41 dX0_readIt_38 rfl fk_z_233 hv2 ?_
  refine J_ic 42 dX0_readIt_41 rfl (3 : Int32) kic_3 ?_
  obtain ⟨v3, hv3, h⟩ := some_of_bind h
  refine J_iald 43 dX0_readIt_42 rfl hv3 ?_
  refine J_istore (i := 6) 45 [(6, 1, .int v3), (5, 1, .int s0), (0, 1, va_rf l0), (2, 1, .int l2), (3, 1, va_rf l3), (4, 1, .int l4)] dX0_readIt_43 rfl (Nat.le_of_ble_eq_true rfl) rfl ?_
  refine J_iload_n (i := 2) 3 46 dX0_readIt_45 rfl rfl rfl ?_
  refine J_iload (i := 6) 0 48 dX0_readIt_46 rfl rfl ?_
  obtain ⟨q4, hq4, h⟩ := some_of_bind h
  refine J_cSi 51 dX0_readIt_48 rfl ykX0_hashOf (Or.inl q528) q529 (Nat.le_of_ble_eq_true rfl) cs_nil (by decide) [.int l2, .int v3] rfl rfl (sX0_hashOf hγ l2 v3 σ q4 hq4) ?_
  refine J_istore (i := 7) 53 [(7, 1, .int q4.1), (6, 1, .int v3), (5, 1, .int s0), (0, 1, va_rf l0), (2, 1, .int l2), (3, 1, va_rf l3), (4, 1, .int l4)] dX0_readIt_51 rfl (Nat.le_of_ble_eq_true rfl) rfl ?_
  refine J_aload_n (i := 3) 5 54 dX0_readIt_53 rfl rfl rfl ?_
  obtain ⟨v5, hv5, h⟩ := some_of_bind h
  refine J_gR 57 dX0_readIt_54 rfl fk_z_279 hv5 ?_
  refine J_ic 58 dX0_readIt_57 rfl (0 : Int32) kic_0 ?_
  refine J_iload (i := 5) 2 60 dX0_readIt_58 rfl rfl ?_
  refine J_mmaxI q740 (Nat.le_of_ble_eq_true rfl) (cs_rf cs_nil) (by decide) 63 dX0_readIt_60 rfl ?_
  refine J_dup2ir 64 dX0_readIt_63 rfl ?_
  obtain ⟨v6, hv6, h⟩ := some_of_bind h
  refine J_iald 65 dX0_readIt_64 rfl hv6 ?_
  refine J_iload (i := 4) 6 67 dX0_readIt_65 rfl rfl ?_
  refine J_iadd 68 dX0_readIt_67 rfl ?_
  obtain ⟨σ7, hσ7, h⟩ := some_of_bind h
  refine J_iast 69 dX0_readIt_68 rfl hσ7 ?_
  refine J_iload (i := 5) 2 71 dX0_readIt_69 rfl rfl ?_
  refine J_ic 72 dX0_readIt_71 rfl (-1 : Int32) kic_m1 ?_
  refine J_icmp_ne 77 75 dX0_readIt_72 (by decide) rfl (fun c8 => ?_) (fun c8 => ?_)
  · rw [if_neg c8] at h
    refine J_aload_n (i := 3) 5 78 dX0_readIt_77 rfl rfl rfl ?_
    refine J_iload_n (i := 2) 4 79 dX0_readIt_78 rfl rfl rfl ?_
    obtain ⟨b10, hb10, h⟩ := some_of_bind h
    obtain ⟨q9, hq9, h⟩ := some_of_bind h
    refine J_cVv 82 dX0_readIt_79 rfl ykX3_push (Or.inl q743) q744 q745 (Nat.le_of_ble_eq_true rfl) cs_nil (by decide) [.int l2] hb10 (by decide) rfl rfl rfl (sX3_push hγ l3 l2 σ7 q9 hq9) ?_
    refine J_iload (i := 7) 0 84 dX0_readIt_82 rfl rfl ?_
    refine J_aload_n (i := 3) 5 85 dX0_readIt_84 rfl rfl rfl ?_
    obtain ⟨v11, hv11, h⟩ := some_of_bind h
    refine J_gI 88 dX0_readIt_85 rfl fk_z_280 hv11 ?_
    refine J_icmp_ge 102 91 dX0_readIt_88 (by decide) rfl (fun c12 => ?_) (fun c12 => ?_)
    · rw [if_pos c12] at h
      refine J_iload (i := 5) 2 104 dX0_readIt_102 rfl rfl ?_
      exact J_iret rfl dX0_readIt_104 (retI h)
    · rw [if_neg c12] at h
      refine J_aload_n (i := 3) 5 92 dX0_readIt_91 rfl rfl rfl ?_
      refine J_iload_n (i := 2) 4 93 dX0_readIt_92 rfl rfl rfl ?_
      refine J_iload (i := 7) 0 95 dX0_readIt_93 rfl rfl ?_
      refine J_iload (i := 4) 6 97 dX0_readIt_95 rfl rfl ?_
      refine J_iload (i := 6) 1 99 dX0_readIt_97 rfl rfl ?_
      obtain ⟨b14, hb14, h⟩ := some_of_bind h
      obtain ⟨q13, hq13, h⟩ := some_of_bind h
      refine J_cVv 102 dX0_readIt_99 rfl ykX3_sampleIt (Or.inl q756) q757 q758 (Nat.le_of_ble_eq_true rfl) cs_nil (by decide) [.int l2, .int q4.1, .int l4, .int v3] hb14 (by decide) rfl rfl rfl (sX3_sampleIt hγ l3 l2 q4.1 l4 v3 q9 q13 hq13) ?_
      refine J_iload (i := 5) 2 104 dX0_readIt_102 rfl rfl ?_
      exact J_iret rfl dX0_readIt_104 (retI h)
  · rw [if_pos c8] at h
    refine J_ic 76 dX0_readIt_75 rfl (0 : Int32) kic_0 ?_
    exact J_iret rfl dX0_readIt_76 (retI h)
def X0_readIt (l0 : Option Nat) (l1 : Int32) (l2 : Int32) (σ : Hp) : Option (Int32 × Hp) :=
  (cT σ l0 0).bind fun b2 =>
  (X0_book l0 l1 σ).bind fun q1 =>
  (cT q1.2 l0 0).bind fun b4 =>
  (X0_costs l0 l1 l2 q1.2).bind fun q3 =>
  (cT q3.2 l0 0).bind fun b6 =>
  (X0_isBarred l0 l1 l2 q3.2).bind fun q5 =>
  if q5.1 = 0 then
    (cT q5.2 q1.1 3).bind fun b9 =>
    (X3_place q1.1 l2 q5.2).bind fun q8 =>
    X0_readIt_c32  l0 l2 q1.1 q3.1 q8.1 q8.2
  else
    X0_readIt_c32  l0 l2 q1.1 q3.1 (-1 : Int32) q5.2
set_option maxHeartbeats 4000000 in
theorem sX0_readIt {γ : GP} (hγ : GOK γ) (l0 : Option Nat) (l1 : Int32) (l2 : Int32) (σ : Hp) (q : (Int32 × Hp)) (h : X0_readIt l0 l1 l2 σ = some q) : Rn γ mX0_readIt yX0_readIt [va_rf l0, .int l1, .int l2] (σ, .inr (some (.int q.1)), q.2) := by
  refine J_m hγ ykX0_readIt rfl [(1, va_rf l0), (1, .int l1), (1, .int l2)] (cats_r (cats_i (cats_i cats_nil))) (Nat.le_of_ble_eq_true rfl) ?_
  show J γ mX0_readIt _ σ 0 [(0, 1, va_rf l0), (1, 1, .int l1), (2, 1, .int l2)] []
  unfold X0_readIt at h
  refine J_aload_n (i := 0) 0 1 dX0_readIt_0 rfl rfl rfl ?_
  refine J_iload_n (i := 1) 1 2 dX0_readIt_1 rfl rfl rfl ?_
  obtain ⟨b2, hb2, h⟩ := some_of_bind h
  obtain ⟨q1, hq1, h⟩ := some_of_bind h
  refine J_cVr 5 dX0_readIt_2 rfl ykX0_book (Or.inl q495) q497 qs1 (Nat.le_of_ble_eq_true rfl) cs_nil (by decide) [.int l1] hb2 (by decide) rfl rfl rfl (sX0_book hγ l0 l1 σ q1 hq1) ?_
  refine J_astore_n (i := 3) 6 [(3, 1, va_rf q1.1), (0, 1, va_rf l0), (1, 1, .int l1), (2, 1, .int l2)] dX0_readIt_5 rfl rfl (Nat.le_of_ble_eq_true rfl) rfl ?_
  refine J_aload_n (i := 0) 1 7 dX0_readIt_6 rfl rfl rfl ?_
  refine J_iload_n (i := 1) 2 8 dX0_readIt_7 rfl rfl rfl ?_
  refine J_iload_n (i := 2) 3 9 dX0_readIt_8 rfl rfl rfl ?_
  obtain ⟨b4, hb4, h⟩ := some_of_bind h
  obtain ⟨q3, hq3, h⟩ := some_of_bind h
  refine J_cVi 12 dX0_readIt_9 rfl ykX0_costs (Or.inl q531) q533 qs3 (Nat.le_of_ble_eq_true rfl) cs_nil (by decide) [.int l1, .int l2] hb4 (by decide) rfl rfl rfl (sX0_costs hγ l0 l1 l2 q1.2 q3 hq3) ?_
  refine J_istore (i := 4) 14 [(4, 1, .int q3.1), (3, 1, va_rf q1.1), (0, 1, va_rf l0), (1, 1, .int l1), (2, 1, .int l2)] dX0_readIt_12 rfl (Nat.le_of_ble_eq_true rfl) rfl ?_
  refine J_aload_n (i := 0) 2 15 dX0_readIt_14 rfl rfl rfl ?_
  refine J_iload_n (i := 1) 3 16 dX0_readIt_15 rfl rfl rfl ?_
  refine J_iload_n (i := 2) 4 17 dX0_readIt_16 rfl rfl rfl ?_
  obtain ⟨b6, hb6, h⟩ := some_of_bind h
  obtain ⟨q5, hq5, h⟩ := some_of_bind h
  refine J_cVi 20 dX0_readIt_17 rfl ykX0_isBarred (Or.inl q613) q615 qs6 (Nat.le_of_ble_eq_true rfl) cs_nil (by decide) [.int l1, .int l2] hb6 (by decide) rfl rfl rfl (sX0_isBarred hγ l0 l1 l2 q3.2 q5 hq5) ?_
  refine J_if_eq 27 23 dX0_readIt_20 (by decide) rfl (fun c7 => ?_) (fun c7 => ?_)
  · rw [if_pos c7] at h
    refine J_aload_n (i := 3) 1 28 dX0_readIt_27 rfl rfl rfl ?_
    refine J_iload_n (i := 2) 4 29 dX0_readIt_28 rfl rfl rfl ?_
    obtain ⟨b9, hb9, h⟩ := some_of_bind h
    obtain ⟨q8, hq8, h⟩ := some_of_bind h
    refine J_cVi 32 dX0_readIt_29 rfl ykX3_place (Or.inl q517) q518 q519 (Nat.le_of_ble_eq_true rfl) cs_nil (by decide) [.int l2] hb9 (by decide) rfl rfl rfl (sX3_place hγ q1.1 l2 q5.2 q8 hq8) ?_
    refine J.pick [2, 4, 1, 0] rfl ?_
    exact jX0_readIt_c32 hγ l0 l2 q1.1 q3.1 q8.1 q8.2 h
  · rw [if_neg c7] at h
    refine J_ic 24 dX0_readIt_23 rfl (-1 : Int32) kic_m1 ?_
    refine J_goto 32 dX0_readIt_24 (by decide) ?_
    refine J.pick [2, 4, 1, 0] rfl ?_
    exact jX0_readIt_c32 hγ l0 l2 q1.1 q3.1 (-1 : Int32) q5.2 h
abbrev mX0_loopNow : MP := (cX0_loopNow, "MissCurves", 6, (Option.some FieldType.int), 110, "loopNow", [])
theorem ykX0_loopNow : YK yX0_loopNow mX0_loopNow 3 := ⟨q1600, q128, ⟨by decide, by decide⟩, by decide +kernel, Nat.le_of_ble_eq_true rfl, by decide, rfl, rfl⟩
def X0_loopNow_c54 (l0 : Option Nat) (l1 : Int32) (l3 : Int32)  : Nat → Int32 → Int32 → Hp → Option (Int32 × Hp)
  | 0, _, _, _ => none
  | n + 1, l4, l5, σ =>
    if l3 < l5 then
      some (l4, σ)
    else
      (cT σ l0 0).bind fun b3 =>
      (X0_readIt l0 l1 l5 σ).bind fun q2 =>
      if q2.1 = 0 then
        X0_loopNow_c54 l0 l1 l3 n (l4 + (1 : Int32)) (l5 + (1 : Int32)) q2.2
      else
        X0_loopNow_c54 l0 l1 l3 n (l4 + (0 : Int32)) (l5 + (1 : Int32)) q2.2
set_option maxHeartbeats 4000000 in
theorem jX0_loopNow_c54 {γ : GP} {σ0 : Hp} {q : (Int32 × Hp)} (hγ : GOK γ) (l0 : Option Nat) (l1 : Int32) (l3 : Int32)  : ∀ (n : Nat) (l4 : Int32) (l5 : Int32) (σ : Hp), X0_loopNow_c54 l0 l1 l3 n l4 l5 σ = some q → J γ mX0_loopNow (σ0, .inr (some (.int q.1)), q.2) σ 54 [(0, 1, va_rf l0), (1, 1, .int l1), (3, 1, .int l3), (4, 1, .int l4), (5, 1, .int l5)] [] := by
  intro n
  induction n with
  | zero => intro l4 l5 σ h; exact nomatch (show none = some q from h)
  | succ n ih =>
    intro l4 l5 σ h
    rw [X0_loopNow_c54] at h
    refine J_iload (i := 5) 4 56 dX0_loopNow_54 rfl rfl ?_
    refine J_iload_n (i := 3) 2 57 dX0_loopNow_56 rfl rfl rfl ?_
    refine J_icmp_gt 86 60 dX0_loopNow_57 (by decide) rfl (fun c1 => ?_) (fun c1 => ?_)
    · rw [if_pos c1] at h
      refine J_iload (i := 4) 3 88 dX0_loopNow_86 rfl rfl ?_
      exact J_iret rfl dX0_loopNow_88 (retI h)
    · rw [if_neg c1] at h
      refine J_iload (i := 4) 3 62 dX0_loopNow_60 rfl rfl ?_
      refine J_aload_n (i := 0) 0 63 dX0_loopNow_62 rfl rfl rfl ?_
      refine J_iload_n (i := 1) 1 64 dX0_loopNow_63 rfl rfl rfl ?_
      refine J_iload (i := 5) 4 66 dX0_loopNow_64 rfl rfl ?_
      obtain ⟨b3, hb3, h⟩ := some_of_bind h
      obtain ⟨q2, hq2, h⟩ := some_of_bind h
      refine J_cVi 69 dX0_loopNow_66 rfl ykX0_readIt (Or.inl q736) q738 qs11 (Nat.le_of_ble_eq_true rfl) (cs_int cs_nil) (by decide) [.int l1, .int l5] hb3 (by decide) rfl rfl rfl (sX0_readIt hγ l0 l1 l5 σ q2 hq2) ?_
      refine J_if_ne 76 72 dX0_loopNow_69 (by decide) rfl (fun c4 => ?_) (fun c4 => ?_)
      · rw [if_neg c4] at h
        refine J_ic 77 dX0_loopNow_76 rfl (0 : Int32) kic_0 ?_
        refine J_iadd 78 dX0_loopNow_77 rfl ?_
        refine J_istore (i := 4) 80 [(4, 1, .int (l4 + (0 : Int32))), (0, 1, va_rf l0), (1, 1, .int l1), (3, 1, .int l3), (5, 1, .int l5)] dX0_loopNow_78 rfl (Nat.le_of_ble_eq_true rfl) rfl ?_
        refine J_iinc (i := 5) (v := l5 + (1 : Int32)) 4 83 [(5, 1, .int (l5 + (1 : Int32))), (4, 1, .int (l4 + (0 : Int32))), (0, 1, va_rf l0), (1, 1, .int l1), (3, 1, .int l3)] dX0_loopNow_80 rfl rfl (Nat.le_of_ble_eq_true rfl) (by rw [kic_1]) rfl ?_
        refine J_goto 54 dX0_loopNow_83 (by decide) ?_
        refine J.pick [2, 3, 4, 1, 0] rfl ?_
        exact ih (l4 + (0 : Int32)) (l5 + (1 : Int32)) q2.2 h
      · rw [if_pos c4] at h
        refine J_ic 73 dX0_loopNow_72 rfl (1 : Int32) kic_1 ?_
        refine J_goto 77 dX0_loopNow_73 (by decide) ?_
        refine J_iadd 78 dX0_loopNow_77 rfl ?_
        refine J_istore (i := 4) 80 [(4, 1, .int (l4 + (1 : Int32))), (0, 1, va_rf l0), (1, 1, .int l1), (3, 1, .int l3), (5, 1, .int l5)] dX0_loopNow_78 rfl (Nat.le_of_ble_eq_true rfl) rfl ?_
        refine J_iinc (i := 5) (v := l5 + (1 : Int32)) 4 83 [(5, 1, .int (l5 + (1 : Int32))), (4, 1, .int (l4 + (1 : Int32))), (0, 1, va_rf l0), (1, 1, .int l1), (3, 1, .int l3)] dX0_loopNow_80 rfl rfl (Nat.le_of_ble_eq_true rfl) (by rw [kic_1]) rfl ?_
        refine J_goto 54 dX0_loopNow_83 (by decide) ?_
        refine J.pick [2, 3, 4, 1, 0] rfl ?_
        exact ih (l4 + (1 : Int32)) (l5 + (1 : Int32)) q2.2 h
def X0_loopNow (l0 : Option Nat) (l1 : Int32) (l2 : Int32) (l3 : Int32) (σ : Hp) : Option (Int32 × Hp) :=
  (X0_isTenant l1 σ).bind fun q1 =>
  if q1.1 = 0 then
    some ((-1 : Int32), q1.2)
  else
    (X0_isKey l2 q1.2).bind fun q3 =>
    if q3.1 = 0 then
      some ((-1 : Int32), q3.2)
    else
      (X0_isKey l3 q3.2).bind fun q5 =>
      if q5.1 = 0 then
        some ((-1 : Int32), q5.2)
      else
        if l3 < l2 then
          some ((-1 : Int32), q5.2)
        else
          if (l3 - l2) < (32 : Int32) then
            (gR q5.2 l0 [0] 2).bind fun v9 =>
            (cT q5.2 l0 0).bind fun b11 =>
            (X0_books l0  q5.2).bind fun q10 =>
            (cT q10.2 v9 4).bind fun b13 =>
            (X4_append v9 q10.1 (1 : Int32) q10.2).bind fun q12 =>
            X0_loopNow_c54 l0 l1 l3  FUEL (0 : Int32) l2 q12
          else
            some ((-1 : Int32), q5.2)
set_option maxHeartbeats 4000000 in
theorem sX0_loopNow {γ : GP} (hγ : GOK γ) (l0 : Option Nat) (l1 : Int32) (l2 : Int32) (l3 : Int32) (σ : Hp) (q : (Int32 × Hp)) (h : X0_loopNow l0 l1 l2 l3 σ = some q) : Rn γ mX0_loopNow yX0_loopNow [va_rf l0, .int l1, .int l2, .int l3] (σ, .inr (some (.int q.1)), q.2) := by
  refine J_m hγ ykX0_loopNow rfl [(1, va_rf l0), (1, .int l1), (1, .int l2), (1, .int l3)] (cats_r (cats_i (cats_i (cats_i cats_nil)))) (Nat.le_of_ble_eq_true rfl) ?_
  show J γ mX0_loopNow _ σ 0 [(0, 1, va_rf l0), (1, 1, .int l1), (2, 1, .int l2), (3, 1, .int l3)] []
  unfold X0_loopNow at h
  refine J_iload_n (i := 1) 1 1 dX0_loopNow_0 rfl rfl rfl ?_
  obtain ⟨q1, hq1, h⟩ := some_of_bind h
  refine J_cSi 4 dX0_loopNow_1 rfl ykX0_isTenant (Or.inl q491) q492 (Nat.le_of_ble_eq_true rfl) cs_nil (by decide) [.int l1] rfl rfl (sX0_isTenant hγ l1 σ q1 hq1) ?_
  refine J_if_eq 34 7 dX0_loopNow_4 (by decide) rfl (fun c2 => ?_) (fun c2 => ?_)
  · rw [if_pos c2] at h
    refine J_ic 35 dX0_loopNow_34 rfl (-1 : Int32) kic_m1 ?_
    exact J_iret rfl dX0_loopNow_35 (retI h)
  · rw [if_neg c2] at h
    refine J_iload_n (i := 2) 2 8 dX0_loopNow_7 rfl rfl rfl ?_
    obtain ⟨q3, hq3, h⟩ := some_of_bind h
    refine J_cSi 11 dX0_loopNow_8 rfl ykX0_isKey (Or.inl q513) q514 (Nat.le_of_ble_eq_true rfl) cs_nil (by decide) [.int l2] rfl rfl (sX0_isKey hγ l2 q1.2 q3 hq3) ?_
    refine J_if_eq 34 14 dX0_loopNow_11 (by decide) rfl (fun c4 => ?_) (fun c4 => ?_)
    · rw [if_pos c4] at h
      refine J_ic 35 dX0_loopNow_34 rfl (-1 : Int32) kic_m1 ?_
      exact J_iret rfl dX0_loopNow_35 (retI h)
    · rw [if_neg c4] at h
      refine J_iload_n (i := 3) 3 15 dX0_loopNow_14 rfl rfl rfl ?_
      obtain ⟨q5, hq5, h⟩ := some_of_bind h
      refine J_cSi 18 dX0_loopNow_15 rfl ykX0_isKey (Or.inl q513) q514 (Nat.le_of_ble_eq_true rfl) cs_nil (by decide) [.int l3] rfl rfl (sX0_isKey hγ l3 q3.2 q5 hq5) ?_
      refine J_if_eq 34 21 dX0_loopNow_18 (by decide) rfl (fun c6 => ?_) (fun c6 => ?_)
      · rw [if_pos c6] at h
        refine J_ic 35 dX0_loopNow_34 rfl (-1 : Int32) kic_m1 ?_
        exact J_iret rfl dX0_loopNow_35 (retI h)
      · rw [if_neg c6] at h
        refine J_iload_n (i := 3) 3 22 dX0_loopNow_21 rfl rfl rfl ?_
        refine J_iload_n (i := 2) 2 23 dX0_loopNow_22 rfl rfl rfl ?_
        refine J_icmp_lt 34 26 dX0_loopNow_23 (by decide) rfl (fun c7 => ?_) (fun c7 => ?_)
        · rw [if_pos c7] at h
          refine J_ic 35 dX0_loopNow_34 rfl (-1 : Int32) kic_m1 ?_
          exact J_iret rfl dX0_loopNow_35 (retI h)
        · rw [if_neg c7] at h
          refine J_iload_n (i := 3) 3 27 dX0_loopNow_26 rfl rfl rfl ?_
          refine J_iload_n (i := 2) 2 28 dX0_loopNow_27 rfl rfl rfl ?_
          refine J_isub 29 dX0_loopNow_28 rfl ?_
          refine J_bipush 31 dX0_loopNow_29 rfl (32 : Int32) kbp_32 ?_
          refine J_icmp_lt 36 34 dX0_loopNow_31 (by decide) rfl (fun c8 => ?_) (fun c8 => ?_)
          · rw [if_pos c8] at h
            refine J_aload_n (i := 0) 0 37 dX0_loopNow_36 rfl rfl rfl ?_
            obtain ⟨v9, hv9, h⟩ := some_of_bind h
            refine J_gR 40 dX0_loopNow_37 rfl fk_z_253 hv9 ?_
            refine J_aload_n (i := 0) 0 41 dX0_loopNow_40 rfl rfl rfl ?_
            obtain ⟨b11, hb11, h⟩ := some_of_bind h
            obtain ⟨q10, hq10, h⟩ := some_of_bind h
            refine J_cVr 44 dX0_loopNow_41 rfl ykX0_books (Or.inl q499) q501 qs2 (Nat.le_of_ble_eq_true rfl) (cs_rf cs_nil) (by decide) [] hb11 (by decide) rfl rfl rfl (sX0_books hγ l0  q5.2 q10 hq10) ?_
            refine J_ic 45 dX0_loopNow_44 rfl (1 : Int32) kic_1 ?_
            obtain ⟨b13, hb13, h⟩ := some_of_bind h
            obtain ⟨q12, hq12, h⟩ := some_of_bind h
            refine J_cVv 48 dX0_loopNow_45 rfl ykX4_append (Or.inl q1580) q1581 q1582 (Nat.le_of_ble_eq_true rfl) cs_nil (by decide) [va_rf q10.1, .int (1 : Int32)] hb13 (by decide) rfl rfl rfl (sX4_append hγ v9 q10.1 (1 : Int32) q10.2 q12 hq12) ?_
            refine J_ic 49 dX0_loopNow_48 rfl (0 : Int32) kic_0 ?_
            refine J_istore (i := 4) 51 [(4, 1, .int (0 : Int32)), (0, 1, va_rf l0), (1, 1, .int l1), (2, 1, .int l2), (3, 1, .int l3)] dX0_loopNow_49 rfl (Nat.le_of_ble_eq_true rfl) rfl ?_
            refine J_iload_n (i := 2) 3 52 dX0_loopNow_51 rfl rfl rfl ?_
            refine J_istore (i := 5) 54 [(5, 1, .int l2), (4, 1, .int (0 : Int32)), (0, 1, va_rf l0), (1, 1, .int l1), (2, 1, .int l2), (3, 1, .int l3)] dX0_loopNow_52 rfl (Nat.le_of_ble_eq_true rfl) rfl ?_
            refine J.pick [2, 3, 5, 1, 0] rfl ?_
            refine jX0_loopNow_c54 hγ l0 l1 l3  FUEL (0 : Int32) l2 q12 h
          · rw [if_neg c8] at h
            refine J_ic 35 dX0_loopNow_34 rfl (-1 : Int32) kic_m1 ?_
            exact J_iret rfl dX0_loopNow_35 (retI h)
abbrev mX0_loop : MP := (cX0_loop, "MissCurves", 4, (Option.some FieldType.int), 111, "loop", [])
theorem ykX0_loop : YK yX0_loop mX0_loop 3 := ⟨q1596, q128, ⟨by decide, by decide⟩, by decide +kernel, Nat.le_of_ble_eq_true rfl, by decide, rfl, rfl⟩
def X0_loop (l0 : Option Nat) (l1 : Int32) (l2 : Int32) (l3 : Int32) (σ : Hp) : Option (Int32 × Hp) :=
  (cT σ l0 0).bind fun b2 =>
  (X0_loopNow l0 l1 l2 l3 σ).bind fun q1 =>
  (cT q1.2 l0 0).bind fun b4 =>
  (X0_tell l0 q1.1 q1.2).bind fun q3 =>
  some (q3.1, q3.2)
set_option maxHeartbeats 4000000 in
theorem sX0_loop {γ : GP} (hγ : GOK γ) (l0 : Option Nat) (l1 : Int32) (l2 : Int32) (l3 : Int32) (σ : Hp) (q : (Int32 × Hp)) (h : X0_loop l0 l1 l2 l3 σ = some q) : Rn γ mX0_loop yX0_loop [va_rf l0, .int l1, .int l2, .int l3] (σ, .inr (some (.int q.1)), q.2) := by
  refine J_m hγ ykX0_loop rfl [(1, va_rf l0), (1, .int l1), (1, .int l2), (1, .int l3)] (cats_r (cats_i (cats_i (cats_i cats_nil)))) (Nat.le_of_ble_eq_true rfl) ?_
  show J γ mX0_loop _ σ 0 [(0, 1, va_rf l0), (1, 1, .int l1), (2, 1, .int l2), (3, 1, .int l3)] []
  unfold X0_loop at h
  refine J_aload_n (i := 0) 0 1 dX0_loop_0 rfl rfl rfl ?_
  refine J_aload_n (i := 0) 0 2 dX0_loop_1 rfl rfl rfl ?_
  refine J_iload_n (i := 1) 1 3 dX0_loop_2 rfl rfl rfl ?_
  refine J_iload_n (i := 2) 2 4 dX0_loop_3 rfl rfl rfl ?_
  refine J_iload_n (i := 3) 3 5 dX0_loop_4 rfl rfl rfl ?_
  obtain ⟨b2, hb2, h⟩ := some_of_bind h
  obtain ⟨q1, hq1, h⟩ := some_of_bind h
  refine J_cVi 8 dX0_loop_5 rfl ykX0_loopNow (Or.inl q1597) q1599 qs23 (Nat.le_of_ble_eq_true rfl) (cs_rf cs_nil) (by decide) [.int l1, .int l2, .int l3] hb2 (by decide) rfl rfl rfl (sX0_loopNow hγ l0 l1 l2 l3 σ q1 hq1) ?_
  obtain ⟨b4, hb4, h⟩ := some_of_bind h
  obtain ⟨q3, hq3, h⟩ := some_of_bind h
  refine J_cVi 11 dX0_loop_8 rfl ykX0_tell (Or.inl q630) q632 qs7 (Nat.le_of_ble_eq_true rfl) cs_nil (by decide) [.int q1.1] hb4 (by decide) rfl rfl rfl (sX0_tell hγ l0 q1.1 q1.2 q3 hq3) ?_
  exact J_iret rfl dX0_loop_11 (retI h)
abbrev mX0_misses : MP := (cX0_misses, "MissCurves", 3, (Option.some FieldType.int), 2, "misses", [])
theorem ykX0_misses : YK yX0_misses mX0_misses 2 := ⟨q1638, q128, ⟨by decide, by decide⟩, by decide +kernel, Nat.le_of_ble_eq_true rfl, by decide, rfl, rfl⟩
def X0_misses (l0 : Option Nat) (l1 : Int32) (l2 : Int32) (σ : Hp) : Option (Int32 × Hp) :=
  (X0_isTenant l1 σ).bind fun q1 =>
  if q1.1 = 0 then
    some ((-1 : Int32), q1.2)
  else
    (X0_isSize l2 q1.2).bind fun q3 =>
    if q3.1 = 0 then
      some ((-1 : Int32), q3.2)
    else
      (cT q3.2 l0 0).bind fun b6 =>
      (X0_book l0 l1 q3.2).bind fun q5 =>
      (cT q5.2 q5.1 3).bind fun b8 =>
      (X3_misses q5.1 l2 q5.2).bind fun q7 =>
      some (q7.1, q7.2)
set_option maxHeartbeats 4000000 in
theorem sX0_misses {γ : GP} (hγ : GOK γ) (l0 : Option Nat) (l1 : Int32) (l2 : Int32) (σ : Hp) (q : (Int32 × Hp)) (h : X0_misses l0 l1 l2 σ = some q) : Rn γ mX0_misses yX0_misses [va_rf l0, .int l1, .int l2] (σ, .inr (some (.int q.1)), q.2) := by
  refine J_m hγ ykX0_misses rfl [(1, va_rf l0), (1, .int l1), (1, .int l2)] (cats_r (cats_i (cats_i cats_nil))) (Nat.le_of_ble_eq_true rfl) ?_
  show J γ mX0_misses _ σ 0 [(0, 1, va_rf l0), (1, 1, .int l1), (2, 1, .int l2)] []
  unfold X0_misses at h
  refine J_iload_n (i := 1) 1 1 dX0_misses_0 rfl rfl rfl ?_
  obtain ⟨q1, hq1, h⟩ := some_of_bind h
  refine J_cSi 4 dX0_misses_1 rfl ykX0_isTenant (Or.inl q491) q492 (Nat.le_of_ble_eq_true rfl) cs_nil (by decide) [.int l1] rfl rfl (sX0_isTenant hγ l1 σ q1 hq1) ?_
  refine J_if_eq 26 7 dX0_misses_4 (by decide) rfl (fun c2 => ?_) (fun c2 => ?_)
  · rw [if_pos c2] at h
    refine J_ic 27 dX0_misses_26 rfl (-1 : Int32) kic_m1 ?_
    exact J_iret rfl dX0_misses_27 (retI h)
  · rw [if_neg c2] at h
    refine J_iload_n (i := 2) 2 8 dX0_misses_7 rfl rfl rfl ?_
    obtain ⟨q3, hq3, h⟩ := some_of_bind h
    refine J_cSi 11 dX0_misses_8 rfl ykX0_isSize (Or.inl q1639) q1640 (Nat.le_of_ble_eq_true rfl) cs_nil (by decide) [.int l2] rfl rfl (sX0_isSize hγ l2 q1.2 q3 hq3) ?_
    refine J_if_eq 26 14 dX0_misses_11 (by decide) rfl (fun c4 => ?_) (fun c4 => ?_)
    · rw [if_pos c4] at h
      refine J_ic 27 dX0_misses_26 rfl (-1 : Int32) kic_m1 ?_
      exact J_iret rfl dX0_misses_27 (retI h)
    · rw [if_neg c4] at h
      refine J_aload_n (i := 0) 0 15 dX0_misses_14 rfl rfl rfl ?_
      refine J_iload_n (i := 1) 1 16 dX0_misses_15 rfl rfl rfl ?_
      obtain ⟨b6, hb6, h⟩ := some_of_bind h
      obtain ⟨q5, hq5, h⟩ := some_of_bind h
      refine J_cVr 19 dX0_misses_16 rfl ykX0_book (Or.inl q495) q497 qs1 (Nat.le_of_ble_eq_true rfl) cs_nil (by decide) [.int l1] hb6 (by decide) rfl rfl rfl (sX0_book hγ l0 l1 q3.2 q5 hq5) ?_
      refine J_iload_n (i := 2) 2 20 dX0_misses_19 rfl rfl rfl ?_
      obtain ⟨b8, hb8, h⟩ := some_of_bind h
      obtain ⟨q7, hq7, h⟩ := some_of_bind h
      refine J_cVi 23 dX0_misses_20 rfl ykX3_misses (Or.inl q1643) q1644 q1645 (Nat.le_of_ble_eq_true rfl) cs_nil (by decide) [.int l2] hb8 (by decide) rfl rfl rfl (sX3_misses hγ q5.1 l2 q5.2 q7 hq7) ?_
      refine J_goto 27 dX0_misses_23 (by decide) ?_
      exact J_iret rfl dX0_misses_27 (retI h)
abbrev mX0_passIt : MP := (cX0_passIt, "MissCurves", 6, (Option.some FieldType.int), 1, "passIt", [])
theorem ykX0_passIt : YK yX0_passIt mX0_passIt 0 := ⟨q1624, q128, ⟨by decide, by decide⟩, by decide +kernel, Nat.le_of_ble_eq_true rfl, by decide, rfl, rfl⟩
theorem pk_z_281 {nm9 : String} : POK "MissCurves" nm9 205 [2] 1 .int := POK.one (by decide) rfl (Nat.le_of_ble_eq_true rfl) (Or.inr ⟨_, q281⟩) rfl (by decide +kernel) (Or.inl rfl)
def X0_passIt_c16 (l0 : Option Nat) (l2 : Option Nat) (l3 : Int32) (k42 : Int32 → Hp → Option (Int32 × Hp)) : Nat → Int32 → Int32 → Hp → Option (Int32 × Hp)
  | 0, _, _, _ => none
  | n + 1, l1, l4, σ =>
    if l3 ≤ l4 then
      k42 l1 σ
    else
      (aR 7 σ l2 l4).bind fun v2 =>
      (cT σ v2 3).bind fun b4 =>
      (X3_halve v2  σ).bind fun q3 =>
      X0_passIt_c16 l0 l2 l3 k42 n (l1 + q3.1) (l4 + (1 : Int32)) q3.2
set_option maxHeartbeats 4000000 in
theorem jX0_passIt_c16 {γ : GP} {σ0 : Hp} {q : (Int32 × Hp)} (hγ : GOK γ) (l0 : Option Nat) (l2 : Option Nat) (l3 : Int32) {k42 : Int32 → Hp → Option (Int32 × Hp)} (hk42 : ∀ (l1 : Int32) (σ : Hp), k42 l1 σ = some q → J γ mX0_passIt (σ0, .inr (some (.int q.1)), q.2) σ 42 [(0, 1, va_rf l0), (1, 1, .int l1)] []) : ∀ (n : Nat) (l1 : Int32) (l4 : Int32) (σ : Hp), X0_passIt_c16 l0 l2 l3 k42 n l1 l4 σ = some q → J γ mX0_passIt (σ0, .inr (some (.int q.1)), q.2) σ 16 [(0, 1, va_rf l0), (1, 1, .int l1), (2, 1, va_rf l2), (3, 1, .int l3), (4, 1, .int l4)] [] := by
  intro n
  induction n with
  | zero => intro l1 l4 σ h; exact nomatch (show none = some q from h)
  | succ n ih =>
    intro l1 l4 σ h
    rw [X0_passIt_c16] at h
    refine J_iload (i := 4) 4 18 dX0_passIt_16 rfl rfl ?_
    refine J_iload_n (i := 3) 3 19 dX0_passIt_18 rfl rfl rfl ?_
    refine J_icmp_ge 42 22 dX0_passIt_19 (by decide) rfl (fun c1 => ?_) (fun c1 => ?_)
    · rw [if_pos c1] at h
      refine J.pick [0, 1] rfl ?_
      exact hk42 l1 σ h
    · rw [if_neg c1] at h
      refine J_aload_n (i := 2) 2 23 dX0_passIt_22 rfl rfl rfl ?_
      refine J_iload (i := 4) 4 25 dX0_passIt_23 rfl rfl ?_
      obtain ⟨v2, hv2, h⟩ := some_of_bind h
      refine J_aald 7 (by decide) (by decide) rfl 26 dX0_passIt_25 rfl hv2 ?_
      refine J_astore (i := 5) 28 [(5, 1, va_rf v2), (0, 1, va_rf l0), (1, 1, .int l1), (2, 1, va_rf l2), (3, 1, .int l3), (4, 1, .int l4)] dX0_passIt_26 rfl (Nat.le_of_ble_eq_true rfl) rfl ?_
      refine J_iload_n (i := 1) 2 29 dX0_passIt_28 rfl rfl rfl ?_
      refine J_aload (i := 5) 0 31 dX0_passIt_29 rfl rfl ?_
      obtain ⟨b4, hb4, h⟩ := some_of_bind h
      obtain ⟨q3, hq3, h⟩ := some_of_bind h
      refine J_cVi 34 dX0_passIt_31 rfl ykX3_halve (Or.inl q1625) q1626 q1627 (Nat.le_of_ble_eq_true rfl) (cs_int cs_nil) (by decide) [] hb4 (by decide) rfl rfl rfl (sX3_halve hγ v2  σ q3 hq3) ?_
      refine J_iadd 35 dX0_passIt_34 rfl ?_
      refine J_istore_n (i := 1) 36 [(1, 1, .int (l1 + q3.1)), (5, 1, va_rf v2), (0, 1, va_rf l0), (2, 1, va_rf l2), (3, 1, .int l3), (4, 1, .int l4)] dX0_passIt_35 rfl rfl (Nat.le_of_ble_eq_true rfl) rfl ?_
      refine J_iinc (i := 4) (v := l4 + (1 : Int32)) 5 39 [(4, 1, .int (l4 + (1 : Int32))), (1, 1, .int (l1 + q3.1)), (5, 1, va_rf v2), (0, 1, va_rf l0), (2, 1, va_rf l2), (3, 1, .int l3)] dX0_passIt_36 rfl rfl (Nat.le_of_ble_eq_true rfl) (by rw [kic_1]) rfl ?_
      refine J_goto 16 dX0_passIt_39 (by decide) ?_
      refine J.pick [3, 1, 4, 5, 0] rfl ?_
      exact ih (l1 + q3.1) (l4 + (1 : Int32)) q3.2 h
def X0_passIt (l0 : Option Nat) (σ : Hp) : Option (Int32 × Hp) :=
  (cT σ l0 0).bind fun b2 =>
  (X0_books l0  σ).bind fun q1 =>
  (gR q1.2 q1.1 [2] 0).bind fun v3 =>
  (aN q1.2 v3).bind fun v4 =>
  X0_passIt_c16 l0 v3 v4 (fun x5 τ6 =>
    (cT τ6 l0 0).bind fun b8 =>
    (X0_books l0  τ6).bind fun q7 =>
    (gI q7.2 q7.1 [2] 1).bind fun v9 =>
    (pI q7.2 q7.1 [2] 1 (v9 + (1 : Int32))).bind fun σ10 =>
    some (x5, σ10)) FUEL (0 : Int32) (0 : Int32) q1.2
set_option maxHeartbeats 4000000 in
theorem sX0_passIt {γ : GP} (hγ : GOK γ) (l0 : Option Nat) (σ : Hp) (q : (Int32 × Hp)) (h : X0_passIt l0 σ = some q) : Rn γ mX0_passIt yX0_passIt [va_rf l0] (σ, .inr (some (.int q.1)), q.2) := by
  refine J_m hγ ykX0_passIt rfl [(1, va_rf l0)] (cats_r cats_nil) (Nat.le_of_ble_eq_true rfl) ?_
  show J γ mX0_passIt _ σ 0 [(0, 1, va_rf l0)] []
  unfold X0_passIt at h
  refine J_ic 1 dX0_passIt_0 rfl (0 : Int32) kic_0 ?_
  refine J_istore_n (i := 1) 2 [(1, 1, .int (0 : Int32)), (0, 1, va_rf l0)] dX0_passIt_1 rfl rfl (Nat.le_of_ble_eq_true rfl) rfl ?_
  refine J_aload_n (i := 0) 1 3 dX0_passIt_2 rfl rfl rfl ?_
  obtain ⟨b2, hb2, h⟩ := some_of_bind h
  obtain ⟨q1, hq1, h⟩ := some_of_bind h
  refine J_cVr 6 dX0_passIt_3 rfl ykX0_books (Or.inl q499) q501 qs2 (Nat.le_of_ble_eq_true rfl) cs_nil (by decide) [] hb2 (by decide) rfl rfl rfl (sX0_books hγ l0  σ q1 hq1) ?_
  obtain ⟨v3, hv3, h⟩ := some_of_bind h
  refine J_gR 9 dX0_passIt_6 rfl fk_x_135 hv3 ?_
  refine J_astore_n (i := 2) 10 [(2, 1, va_rf v3), (1, 1, .int (0 : Int32)), (0, 1, va_rf l0)] dX0_passIt_9 rfl rfl (Nat.le_of_ble_eq_true rfl) rfl ?_
  refine J_aload_n (i := 2) 0 11 dX0_passIt_10 rfl rfl rfl ?_
  obtain ⟨v4, hv4, h⟩ := some_of_bind h
  refine J_alen 12 dX0_passIt_11 rfl hv4 ?_
  refine J_istore_n (i := 3) 13 [(3, 1, .int v4), (2, 1, va_rf v3), (1, 1, .int (0 : Int32)), (0, 1, va_rf l0)] dX0_passIt_12 rfl rfl (Nat.le_of_ble_eq_true rfl) rfl ?_
  refine J_ic 14 dX0_passIt_13 rfl (0 : Int32) kic_0 ?_
  refine J_istore (i := 4) 16 [(4, 1, .int (0 : Int32)), (3, 1, .int v4), (2, 1, va_rf v3), (1, 1, .int (0 : Int32)), (0, 1, va_rf l0)] dX0_passIt_14 rfl (Nat.le_of_ble_eq_true rfl) rfl ?_
  refine J.pick [4, 3, 2, 1, 0] rfl ?_
  refine jX0_passIt_c16 hγ l0 v3 v4 (fun x5 τ6 h => ?_) FUEL (0 : Int32) (0 : Int32) q1.2 h
  · refine J_aload_n (i := 0) 0 43 dX0_passIt_42 rfl rfl rfl ?_
    obtain ⟨b8, hb8, h⟩ := some_of_bind h
    obtain ⟨q7, hq7, h⟩ := some_of_bind h
    refine J_cVr 46 dX0_passIt_43 rfl ykX0_books (Or.inl q499) q501 qs2 (Nat.le_of_ble_eq_true rfl) cs_nil (by decide) [] hb8 (by decide) rfl rfl rfl (sX0_books hγ l0  τ6 q7 hq7) ?_
    refine J_dupr 47 dX0_passIt_46 rfl ?_
    obtain ⟨v9, hv9, h⟩ := some_of_bind h
    refine J_gI 50 dX0_passIt_47 rfl fk_z_232 hv9 ?_
    refine J_ic 51 dX0_passIt_50 rfl (1 : Int32) kic_1 ?_
    refine J_iadd 52 dX0_passIt_51 rfl ?_
    obtain ⟨σ10, hσ10, h⟩ := some_of_bind h
    refine J_pI 55 dX0_passIt_52 rfl pk_z_281 hσ10 ?_
    refine J_iload_n (i := 1) 1 56 dX0_passIt_55 rfl rfl rfl ?_
    exact J_iret rfl dX0_passIt_56 (retI h)
abbrev mX0_months : MP := (cX0_months, "MissCurves", 9, (Option.some FieldType.int), 110, "months", [])
theorem ykX0_months : YK yX0_months mX0_months 2 := ⟨q2131, q128, ⟨by decide, by decide⟩, by decide +kernel, Nat.le_of_ble_eq_true rfl, by decide, rfl, rfl⟩
theorem pk_z_282 {nm9 : String} : POK "MissCurves" nm9 524 [0] 27 .boolean := POK.one (by decide) rfl (Nat.le_of_ble_eq_true rfl) (Or.inl ⟨_, q413, Or.inl rfl⟩) rfl (by decide +kernel) (Or.inl rfl)
theorem fk_z_283 : FOK "MissCurves" 47 [0] 5 isR := FOK.one (by decide) rfl (Nat.le_of_ble_eq_true rfl) (Or.inl ⟨_, q385, Or.inl rfl⟩) rfl
def X0_months_c159 (k57 : Int32 → Int32 → Hp → Option (Int32 × Hp)) (k177 : Int32 → Hp → Option (Int32 × Hp)) (l0 : Option Nat) (l2 : Int32) (l3 : Option Nat) (l4 : Int32) (l5 : Int32) (l8 : Int32)  (σ : Hp) : Option (Int32 × Hp) :=
  if l8 = (7 : Int32) then
    (cT σ l0 0).bind fun b3 =>
    (X0_passIt l0  σ).bind fun q2 =>
    k57 l4 (l5 + (1 : Int32)) q2.2
  else
    k57 l4 (l5 + (1 : Int32)) σ
set_option maxHeartbeats 4000000 in
theorem jX0_months_c159 {γ : GP} {σ0 : Hp} {q : (Int32 × Hp)} (hγ : GOK γ) (l0 : Option Nat) (l2 : Int32) (l3 : Option Nat) (l4 : Int32) (l5 : Int32) (l8 : Int32) {k57 : Int32 → Int32 → Hp → Option (Int32 × Hp)} {k177 : Int32 → Hp → Option (Int32 × Hp)} (hk57 : ∀ (l4 : Int32) (l5 : Int32) (σ : Hp), k57 l4 l5 σ = some q → J γ mX0_months (σ0, .inr (some (.int q.1)), q.2) σ 57 [(0, 1, va_rf l0), (2, 1, .int l2), (3, 1, va_rf l3), (4, 1, .int l4), (5, 1, .int l5)] []) (hk177 : ∀ (l4 : Int32) (σ : Hp), k177 l4 σ = some q → J γ mX0_months (σ0, .inr (some (.int q.1)), q.2) σ 177 [(0, 1, va_rf l0), (4, 1, .int l4)] [])  (σ : Hp) (h : X0_months_c159 k57 k177 l0 l2 l3 l4 l5 l8 σ = some q) : J γ mX0_months (σ0, .inr (some (.int q.1)), q.2) σ 159 [(0, 1, va_rf l0), (2, 1, .int l2), (3, 1, va_rf l3), (4, 1, .int l4), (5, 1, .int l5), (8, 1, .int l8)] [] := by
  unfold X0_months_c159 at h
  refine J_iload (i := 8) 5 161 dX0_months_159 rfl rfl ?_
  refine J_bipush 163 dX0_months_161 rfl (7 : Int32) kbp_7 ?_
  refine J_icmp_ne 171 166 dX0_months_163 (by decide) rfl (fun c1 => ?_) (fun c1 => ?_)
  · rw [if_neg c1] at h
    refine J_iinc (i := 5) (v := l5 + (1 : Int32)) 4 174 [(5, 1, .int (l5 + (1 : Int32))), (0, 1, va_rf l0), (2, 1, .int l2), (3, 1, va_rf l3), (4, 1, .int l4), (8, 1, .int l8)] dX0_months_171 rfl rfl (Nat.le_of_ble_eq_true rfl) (by rw [kic_1]) rfl ?_
    refine J_goto 57 dX0_months_174 (by decide) ?_
    refine J.pick [1, 2, 3, 4, 0] rfl ?_
    exact hk57 l4 (l5 + (1 : Int32)) σ h
  · rw [if_pos c1] at h
    refine J_aload_n (i := 0) 0 167 dX0_months_166 rfl rfl rfl ?_
    obtain ⟨b3, hb3, h⟩ := some_of_bind h
    obtain ⟨q2, hq2, h⟩ := some_of_bind h
    refine J_cVi 170 dX0_months_167 rfl ykX0_passIt (Or.inl q1621) q1623 qs26 (Nat.le_of_ble_eq_true rfl) cs_nil (by decide) [] hb3 (by decide) rfl rfl rfl (sX0_passIt hγ l0  σ q2 hq2) ?_
    refine J_popi 171 dX0_months_170 rfl ?_
    refine J_iinc (i := 5) (v := l5 + (1 : Int32)) 4 174 [(5, 1, .int (l5 + (1 : Int32))), (0, 1, va_rf l0), (2, 1, .int l2), (3, 1, va_rf l3), (4, 1, .int l4), (8, 1, .int l8)] dX0_months_171 rfl rfl (Nat.le_of_ble_eq_true rfl) (by rw [kic_1]) rfl ?_
    refine J_goto 57 dX0_months_174 (by decide) ?_
    refine J.pick [1, 2, 3, 4, 0] rfl ?_
    exact hk57 l4 (l5 + (1 : Int32)) q2.2 h
def X0_months_c127 (k57 : Int32 → Int32 → Hp → Option (Int32 × Hp)) (k177 : Int32 → Hp → Option (Int32 × Hp)) (l0 : Option Nat) (l2 : Int32) (l3 : Option Nat) (l4 : Int32) (l5 : Int32) (l6 : Int32) (l7 : Int32) (l8 : Int32)  (σ : Hp) : Option (Int32 × Hp) :=
  if l8 = (6 : Int32) then
    (cT σ l0 0).bind fun b3 =>
    (X0_book l0 l6 σ).bind fun q2 =>
    (cT q2.2 q2.1 3).bind fun b5 =>
    (X3_place q2.1 l7 q2.2).bind fun q4 =>
    if q4.1 ≤ 0 then
      X0_months_c159 k57 k177 l0 l2 l3 l4 l5 l8  q4.2
    else
      (cT q4.2 l0 0).bind fun b8 =>
      (X0_book l0 l6 q4.2).bind fun q7 =>
      (cT q7.2 q7.1 3).bind fun b10 =>
      (X3_drop q7.1 l7 q7.2).bind fun q9 =>
      X0_months_c159 k57 k177 l0 l2 l3 l4 l5 l8  q9
  else
    X0_months_c159 k57 k177 l0 l2 l3 l4 l5 l8  σ
set_option maxHeartbeats 4000000 in
theorem jX0_months_c127 {γ : GP} {σ0 : Hp} {q : (Int32 × Hp)} (hγ : GOK γ) (l0 : Option Nat) (l2 : Int32) (l3 : Option Nat) (l4 : Int32) (l5 : Int32) (l6 : Int32) (l7 : Int32) (l8 : Int32) {k57 : Int32 → Int32 → Hp → Option (Int32 × Hp)} {k177 : Int32 → Hp → Option (Int32 × Hp)} (hk57 : ∀ (l4 : Int32) (l5 : Int32) (σ : Hp), k57 l4 l5 σ = some q → J γ mX0_months (σ0, .inr (some (.int q.1)), q.2) σ 57 [(0, 1, va_rf l0), (2, 1, .int l2), (3, 1, va_rf l3), (4, 1, .int l4), (5, 1, .int l5)] []) (hk177 : ∀ (l4 : Int32) (σ : Hp), k177 l4 σ = some q → J γ mX0_months (σ0, .inr (some (.int q.1)), q.2) σ 177 [(0, 1, va_rf l0), (4, 1, .int l4)] [])  (σ : Hp) (h : X0_months_c127 k57 k177 l0 l2 l3 l4 l5 l6 l7 l8 σ = some q) : J γ mX0_months (σ0, .inr (some (.int q.1)), q.2) σ 127 [(0, 1, va_rf l0), (2, 1, .int l2), (3, 1, va_rf l3), (4, 1, .int l4), (5, 1, .int l5), (6, 1, .int l6), (7, 1, .int l7), (8, 1, .int l8)] [] := by
  unfold X0_months_c127 at h
  refine J_iload (i := 8) 7 129 dX0_months_127 rfl rfl ?_
  refine J_bipush 131 dX0_months_129 rfl (6 : Int32) kbp_6 ?_
  refine J_icmp_ne 159 134 dX0_months_131 (by decide) rfl (fun c1 => ?_) (fun c1 => ?_)
  · rw [if_neg c1] at h
    refine J.pick [0, 1, 2, 3, 4, 7] rfl ?_
    exact jX0_months_c159 hγ l0 l2 l3 l4 l5 l8 hk57 hk177  σ h
  · rw [if_pos c1] at h
    refine J_aload_n (i := 0) 0 135 dX0_months_134 rfl rfl rfl ?_
    refine J_iload (i := 6) 5 137 dX0_months_135 rfl rfl ?_
    obtain ⟨b3, hb3, h⟩ := some_of_bind h
    obtain ⟨q2, hq2, h⟩ := some_of_bind h
    refine J_cVr 140 dX0_months_137 rfl ykX0_book (Or.inl q495) q497 qs1 (Nat.le_of_ble_eq_true rfl) cs_nil (by decide) [.int l6] hb3 (by decide) rfl rfl rfl (sX0_book hγ l0 l6 σ q2 hq2) ?_
    refine J_iload (i := 7) 6 142 dX0_months_140 rfl rfl ?_
    obtain ⟨b5, hb5, h⟩ := some_of_bind h
    obtain ⟨q4, hq4, h⟩ := some_of_bind h
    refine J_cVi 145 dX0_months_142 rfl ykX3_place (Or.inl q517) q518 q519 (Nat.le_of_ble_eq_true rfl) cs_nil (by decide) [.int l7] hb5 (by decide) rfl rfl rfl (sX3_place hγ q2.1 l7 q2.2 q4 hq4) ?_
    refine J_if_le 159 148 dX0_months_145 (by decide) rfl (fun c6 => ?_) (fun c6 => ?_)
    · rw [if_pos c6] at h
      refine J.pick [0, 1, 2, 3, 4, 7] rfl ?_
      exact jX0_months_c159 hγ l0 l2 l3 l4 l5 l8 hk57 hk177  q4.2 h
    · rw [if_neg c6] at h
      refine J_aload_n (i := 0) 0 149 dX0_months_148 rfl rfl rfl ?_
      refine J_iload (i := 6) 5 151 dX0_months_149 rfl rfl ?_
      obtain ⟨b8, hb8, h⟩ := some_of_bind h
      obtain ⟨q7, hq7, h⟩ := some_of_bind h
      refine J_cVr 154 dX0_months_151 rfl ykX0_book (Or.inl q495) q497 qs1 (Nat.le_of_ble_eq_true rfl) cs_nil (by decide) [.int l6] hb8 (by decide) rfl rfl rfl (sX0_book hγ l0 l6 q4.2 q7 hq7) ?_
      refine J_iload (i := 7) 6 156 dX0_months_154 rfl rfl ?_
      obtain ⟨b10, hb10, h⟩ := some_of_bind h
      obtain ⟨q9, hq9, h⟩ := some_of_bind h
      refine J_cVv 159 dX0_months_156 rfl ykX3_drop (Or.inl q1609) q1610 q1611 (Nat.le_of_ble_eq_true rfl) cs_nil (by decide) [.int l7] hb10 (by decide) rfl rfl rfl (sX3_drop hγ q7.1 l7 q7.2 q9 hq9) ?_
      refine J.pick [0, 1, 2, 3, 4, 7] rfl ?_
      exact jX0_months_c159 hγ l0 l2 l3 l4 l5 l8 hk57 hk177  q9 h
def X0_months_c124 (k57 : Int32 → Int32 → Hp → Option (Int32 × Hp)) (k177 : Int32 → Hp → Option (Int32 × Hp)) (l0 : Option Nat) (l2 : Int32) (l3 : Option Nat) (l5 : Int32) (l6 : Int32) (l7 : Int32) (l8 : Int32) (s0 : Int32) (s1 : Int32) (σ : Hp) : Option (Int32 × Hp) :=
  X0_months_c127 k57 k177 l0 l2 l3 (s0 + s1) l5 l6 l7 l8  σ
set_option maxHeartbeats 4000000 in
theorem jX0_months_c124 {γ : GP} {σ0 : Hp} {q : (Int32 × Hp)} (hγ : GOK γ) (l0 : Option Nat) (l2 : Int32) (l3 : Option Nat) (l5 : Int32) (l6 : Int32) (l7 : Int32) (l8 : Int32) {k57 : Int32 → Int32 → Hp → Option (Int32 × Hp)} {k177 : Int32 → Hp → Option (Int32 × Hp)} (hk57 : ∀ (l4 : Int32) (l5 : Int32) (σ : Hp), k57 l4 l5 σ = some q → J γ mX0_months (σ0, .inr (some (.int q.1)), q.2) σ 57 [(0, 1, va_rf l0), (2, 1, .int l2), (3, 1, va_rf l3), (4, 1, .int l4), (5, 1, .int l5)] []) (hk177 : ∀ (l4 : Int32) (σ : Hp), k177 l4 σ = some q → J γ mX0_months (σ0, .inr (some (.int q.1)), q.2) σ 177 [(0, 1, va_rf l0), (4, 1, .int l4)] []) (s0 : Int32) (s1 : Int32) (σ : Hp) (h : X0_months_c124 k57 k177 l0 l2 l3 l5 l6 l7 l8 s0 s1 σ = some q) : J γ mX0_months (σ0, .inr (some (.int q.1)), q.2) σ 124 [(0, 1, va_rf l0), (2, 1, .int l2), (3, 1, va_rf l3), (5, 1, .int l5), (6, 1, .int l6), (7, 1, .int l7), (8, 1, .int l8)] [.int s1, .int s0] := by
  unfold X0_months_c124 at h
  refine J_iadd 125 dX0_months_124 rfl ?_
  refine J_istore (i := 4) 127 [(4, 1, .int (s0 + s1)), (0, 1, va_rf l0), (2, 1, .int l2), (3, 1, va_rf l3), (5, 1, .int l5), (6, 1, .int l6), (7, 1, .int l7), (8, 1, .int l8)] dX0_months_125 rfl (Nat.le_of_ble_eq_true rfl) rfl ?_
  refine J.pick [1, 2, 3, 0, 4, 5, 6, 7] rfl ?_
  exact jX0_months_c127 hγ l0 l2 l3 (s0 + s1) l5 l6 l7 l8 hk57 hk177  σ h
def X0_months_c57 (l0 : Option Nat) (l2 : Int32) (l3 : Option Nat) (k177 : Int32 → Hp → Option (Int32 × Hp)) : Nat → Int32 → Int32 → Hp → Option (Int32 × Hp)
  | 0, _, _, _ => none
  | n + 1, l4, l5, σ =>
    if l2 ≤ l5 then
      k177 l4 σ
    else
      (cT σ l0 0).bind fun b3 =>
      (X0_books l0  σ).bind fun q2 =>
      (gI q2.2 q2.1 [2] 1).bind fun v4 =>
      if (999 : Int32) ≤ v4 then
        k177 l4 q2.2
      else
        (cT q2.2 l3 30).bind fun b7 =>
        (X30_next l3 (4 : Int32) q2.2).bind fun q6 =>
        (cT q6.2 l3 30).bind fun b9 =>
        (X30_next l3 (20 : Int32) q6.2).bind fun q8 =>
        (cT q8.2 l3 30).bind fun b11 =>
        (X30_next l3 (8 : Int32) q8.2).bind fun q10 =>
        if (6 : Int32) ≤ q10.1 then
          X0_months_c127 (X0_months_c57 l0 l2 l3 k177 n) k177 l0 l2 l3 l4 l5 q6.1 q8.1 q10.1  q10.2
        else
          (cT q10.2 l0 0).bind fun b14 =>
          (X0_readIt l0 q6.1 q8.1 q10.2).bind fun q13 =>
          if q13.1 = 0 then
            X0_months_c124 (X0_months_c57 l0 l2 l3 k177 n) k177 l0 l2 l3 l5 q6.1 q8.1 q10.1 l4 (1 : Int32) q13.2
          else
            X0_months_c124 (X0_months_c57 l0 l2 l3 k177 n) k177 l0 l2 l3 l5 q6.1 q8.1 q10.1 l4 (0 : Int32) q13.2
set_option maxHeartbeats 4000000 in
theorem jX0_months_c57 {γ : GP} {σ0 : Hp} {q : (Int32 × Hp)} (hγ : GOK γ) (l0 : Option Nat) (l2 : Int32) (l3 : Option Nat) {k177 : Int32 → Hp → Option (Int32 × Hp)} (hk177 : ∀ (l4 : Int32) (σ : Hp), k177 l4 σ = some q → J γ mX0_months (σ0, .inr (some (.int q.1)), q.2) σ 177 [(0, 1, va_rf l0), (4, 1, .int l4)] []) : ∀ (n : Nat) (l4 : Int32) (l5 : Int32) (σ : Hp), X0_months_c57 l0 l2 l3 k177 n l4 l5 σ = some q → J γ mX0_months (σ0, .inr (some (.int q.1)), q.2) σ 57 [(0, 1, va_rf l0), (2, 1, .int l2), (3, 1, va_rf l3), (4, 1, .int l4), (5, 1, .int l5)] [] := by
  intro n
  induction n with
  | zero => intro l4 l5 σ h; exact nomatch (show none = some q from h)
  | succ n ih =>
    intro l4 l5 σ h
    rw [X0_months_c57] at h
    refine J_iload (i := 5) 4 59 dX0_months_57 rfl rfl ?_
    refine J_iload_n (i := 2) 1 60 dX0_months_59 rfl rfl rfl ?_
    refine J_icmp_ge 177 63 dX0_months_60 (by decide) rfl (fun c1 => ?_) (fun c1 => ?_)
    · rw [if_pos c1] at h
      refine J.pick [0, 3] rfl ?_
      exact hk177 l4 σ h
    · rw [if_neg c1] at h
      refine J_aload_n (i := 0) 0 64 dX0_months_63 rfl rfl rfl ?_
      obtain ⟨b3, hb3, h⟩ := some_of_bind h
      obtain ⟨q2, hq2, h⟩ := some_of_bind h
      refine J_cVr 67 dX0_months_64 rfl ykX0_books (Or.inl q499) q501 qs2 (Nat.le_of_ble_eq_true rfl) cs_nil (by decide) [] hb3 (by decide) rfl rfl rfl (sX0_books hγ l0  σ q2 hq2) ?_
      obtain ⟨v4, hv4, h⟩ := some_of_bind h
      refine J_gI 70 dX0_months_67 rfl fk_z_232 hv4 ?_
      refine J_sipush 73 dX0_months_70 rfl (999 : Int32) ksp_999 ?_
      refine J_icmp_ge 177 76 dX0_months_73 (by decide) rfl (fun c5 => ?_) (fun c5 => ?_)
      · rw [if_pos c5] at h
        refine J.pick [0, 3] rfl ?_
        exact hk177 l4 q2.2 h
      · rw [if_neg c5] at h
        refine J_aload_n (i := 3) 2 77 dX0_months_76 rfl rfl rfl ?_
        refine J_ic 78 dX0_months_77 rfl (4 : Int32) kic_4 ?_
        obtain ⟨b7, hb7, h⟩ := some_of_bind h
        obtain ⟨q6, hq6, h⟩ := some_of_bind h
        refine J_cVi 81 dX0_months_78 rfl ykX30_next (Or.inl q2144) q2145 q2146 (Nat.le_of_ble_eq_true rfl) cs_nil (by decide) [.int (4 : Int32)] hb7 (by decide) rfl rfl rfl (sX30_next hγ l3 (4 : Int32) q2.2 q6 hq6) ?_
        refine J_istore (i := 6) 83 [(6, 1, .int q6.1), (0, 1, va_rf l0), (2, 1, .int l2), (3, 1, va_rf l3), (4, 1, .int l4), (5, 1, .int l5)] dX0_months_81 rfl (Nat.le_of_ble_eq_true rfl) rfl ?_
        refine J_aload_n (i := 3) 3 84 dX0_months_83 rfl rfl rfl ?_
        refine J_bipush 86 dX0_months_84 rfl (20 : Int32) kbp_20 ?_
        obtain ⟨b9, hb9, h⟩ := some_of_bind h
        obtain ⟨q8, hq8, h⟩ := some_of_bind h
        refine J_cVi 89 dX0_months_86 rfl ykX30_next (Or.inl q2144) q2145 q2146 (Nat.le_of_ble_eq_true rfl) cs_nil (by decide) [.int (20 : Int32)] hb9 (by decide) rfl rfl rfl (sX30_next hγ l3 (20 : Int32) q6.2 q8 hq8) ?_
        refine J_istore (i := 7) 91 [(7, 1, .int q8.1), (6, 1, .int q6.1), (0, 1, va_rf l0), (2, 1, .int l2), (3, 1, va_rf l3), (4, 1, .int l4), (5, 1, .int l5)] dX0_months_89 rfl (Nat.le_of_ble_eq_true rfl) rfl ?_
        refine J_aload_n (i := 3) 4 92 dX0_months_91 rfl rfl rfl ?_
        refine J_bipush 94 dX0_months_92 rfl (8 : Int32) kbp_8 ?_
        obtain ⟨b11, hb11, h⟩ := some_of_bind h
        obtain ⟨q10, hq10, h⟩ := some_of_bind h
        refine J_cVi 97 dX0_months_94 rfl ykX30_next (Or.inl q2144) q2145 q2146 (Nat.le_of_ble_eq_true rfl) cs_nil (by decide) [.int (8 : Int32)] hb11 (by decide) rfl rfl rfl (sX30_next hγ l3 (8 : Int32) q8.2 q10 hq10) ?_
        refine J_istore (i := 8) 99 [(8, 1, .int q10.1), (7, 1, .int q8.1), (6, 1, .int q6.1), (0, 1, va_rf l0), (2, 1, .int l2), (3, 1, va_rf l3), (4, 1, .int l4), (5, 1, .int l5)] dX0_months_97 rfl (Nat.le_of_ble_eq_true rfl) rfl ?_
        refine J_iload (i := 8) 0 101 dX0_months_99 rfl rfl ?_
        refine J_bipush 103 dX0_months_101 rfl (6 : Int32) kbp_6 ?_
        refine J_icmp_ge 127 106 dX0_months_103 (by decide) rfl (fun c12 => ?_) (fun c12 => ?_)
        · rw [if_pos c12] at h
          refine J.pick [3, 4, 5, 6, 7, 2, 1, 0] rfl ?_
          exact jX0_months_c127 hγ l0 l2 l3 l4 l5 q6.1 q8.1 q10.1 ih hk177  q10.2 h
        · rw [if_neg c12] at h
          refine J_iload (i := 4) 6 108 dX0_months_106 rfl rfl ?_
          refine J_aload_n (i := 0) 3 109 dX0_months_108 rfl rfl rfl ?_
          refine J_iload (i := 6) 2 111 dX0_months_109 rfl rfl ?_
          refine J_iload (i := 7) 1 113 dX0_months_111 rfl rfl ?_
          obtain ⟨b14, hb14, h⟩ := some_of_bind h
          obtain ⟨q13, hq13, h⟩ := some_of_bind h
          refine J_cVi 116 dX0_months_113 rfl ykX0_readIt (Or.inl q736) q738 qs11 (Nat.le_of_ble_eq_true rfl) (cs_int cs_nil) (by decide) [.int q6.1, .int q8.1] hb14 (by decide) rfl rfl rfl (sX0_readIt hγ l0 q6.1 q8.1 q10.2 q13 hq13) ?_
          refine J_if_ne 123 119 dX0_months_116 (by decide) rfl (fun c15 => ?_) (fun c15 => ?_)
          · rw [if_neg c15] at h
            refine J_ic 124 dX0_months_123 rfl (0 : Int32) kic_0 ?_
            refine J.pick [3, 4, 5, 7, 2, 1, 0] rfl ?_
            exact jX0_months_c124 hγ l0 l2 l3 l5 q6.1 q8.1 q10.1 ih hk177 l4 (0 : Int32) q13.2 h
          · rw [if_pos c15] at h
            refine J_ic 120 dX0_months_119 rfl (1 : Int32) kic_1 ?_
            refine J_goto 124 dX0_months_120 (by decide) ?_
            refine J.pick [3, 4, 5, 7, 2, 1, 0] rfl ?_
            exact jX0_months_c124 hγ l0 l2 l3 l5 q6.1 q8.1 q10.1 ih hk177 l4 (1 : Int32) q13.2 h
def X0_months_c24  (l0 : Option Nat)  (σ : Hp) : Option (Int32 × Hp) :=
  (cT σ l0 0).bind fun b2 =>
  (X0_tell l0 (-1 : Int32) σ).bind fun q1 =>
  some (q1.1, q1.2)
set_option maxHeartbeats 4000000 in
theorem jX0_months_c24 {γ : GP} {σ0 : Hp} {q : (Int32 × Hp)} (hγ : GOK γ) (l0 : Option Nat)   (σ : Hp) (h : X0_months_c24 l0 σ = some q) : J γ mX0_months (σ0, .inr (some (.int q.1)), q.2) σ 24 [(0, 1, va_rf l0)] [] := by
  unfold X0_months_c24 at h
  refine J_aload_n (i := 0) 0 25 dX0_months_24 rfl rfl rfl ?_
  refine J_ic 26 dX0_months_25 rfl (-1 : Int32) kic_m1 ?_
  obtain ⟨b2, hb2, h⟩ := some_of_bind h
  obtain ⟨q1, hq1, h⟩ := some_of_bind h
  refine J_cVi 29 dX0_months_26 rfl ykX0_tell (Or.inl q630) q632 qs7 (Nat.le_of_ble_eq_true rfl) cs_nil (by decide) [.int (-1 : Int32)] hb2 (by decide) rfl rfl rfl (sX0_tell hγ l0 (-1 : Int32) σ q1 hq1) ?_
  exact J_iret rfl dX0_months_29 (retI h)
def X0_months_c177  (l0 : Option Nat) (l4 : Int32)  (σ : Hp) : Option (Int32 × Hp) :=
  (gR σ l0 [0] 26).bind fun v1 =>
  (cT σ l0 0).bind fun b3 =>
  (X0_books l0  σ).bind fun q2 =>
  (cT q2.2 v1 2).bind fun b5 =>
  (X2_as v1 q2.1 q2.2).bind fun q4 =>
  (pZ q4.2 l0 [0] 27 (1 : Int32)).bind fun σ6 =>
  (cT σ6 l0 0).bind fun b8 =>
  (X0_books l0  σ6).bind fun q7 =>
  (gR q7.2 l0 [0] 5).bind fun v9 =>
  (cT q7.2 q7.1 2).bind fun b11 =>
  (X2_as q7.1 v9 q7.2).bind fun q10 =>
  (cT q10.2 l0 0).bind fun b13 =>
  (X0_tell l0 l4 q10.2).bind fun q12 =>
  some (q12.1, q12.2)
set_option maxHeartbeats 4000000 in
theorem jX0_months_c177 {γ : GP} {σ0 : Hp} {q : (Int32 × Hp)} (hγ : GOK γ) (l0 : Option Nat) (l4 : Int32)   (σ : Hp) (h : X0_months_c177 l0 l4 σ = some q) : J γ mX0_months (σ0, .inr (some (.int q.1)), q.2) σ 177 [(0, 1, va_rf l0), (4, 1, .int l4)] [] := by
  unfold X0_months_c177 at h
  refine J_aload_n (i := 0) 0 178 dX0_months_177 rfl rfl rfl ?_
  obtain ⟨v1, hv1, h⟩ := some_of_bind h
  refine J_gR 181 dX0_months_178 rfl fk_z_272 hv1 ?_
  refine J_aload_n (i := 0) 0 182 dX0_months_181 rfl rfl rfl ?_
  obtain ⟨b3, hb3, h⟩ := some_of_bind h
  obtain ⟨q2, hq2, h⟩ := some_of_bind h
  refine J_cVr 185 dX0_months_182 rfl ykX0_books (Or.inl q499) q501 qs2 (Nat.le_of_ble_eq_true rfl) (cs_rf cs_nil) (by decide) [] hb3 (by decide) rfl rfl rfl (sX0_books hγ l0  σ q2 hq2) ?_
  obtain ⟨b5, hb5, h⟩ := some_of_bind h
  obtain ⟨q4, hq4, h⟩ := some_of_bind h
  refine J_cVr 188 dX0_months_185 rfl ykX2_as (Or.inl q1634) q1586 q1587 (Nat.le_of_ble_eq_true rfl) cs_nil (by decide) [va_rf q2.1] hb5 (by decide) rfl rfl rfl (sX2_as hγ v1 q2.1 q2.2 q4 hq4) ?_
  refine J_popr 189 dX0_months_188 rfl ?_
  refine J_aload_n (i := 0) 0 190 dX0_months_189 rfl rfl rfl ?_
  refine J_ic 191 dX0_months_190 rfl (1 : Int32) kic_1 ?_
  obtain ⟨σ6, hσ6, h⟩ := some_of_bind h
  refine J_pZ 194 dX0_months_191 rfl pk_z_282 hσ6 ?_
  refine J_aload_n (i := 0) 0 195 dX0_months_194 rfl rfl rfl ?_
  obtain ⟨b8, hb8, h⟩ := some_of_bind h
  obtain ⟨q7, hq7, h⟩ := some_of_bind h
  refine J_cVr 198 dX0_months_195 rfl ykX0_books (Or.inl q499) q501 qs2 (Nat.le_of_ble_eq_true rfl) cs_nil (by decide) [] hb8 (by decide) rfl rfl rfl (sX0_books hγ l0  σ6 q7 hq7) ?_
  refine J_aload_n (i := 0) 0 199 dX0_months_198 rfl rfl rfl ?_
  obtain ⟨v9, hv9, h⟩ := some_of_bind h
  refine J_gR 202 dX0_months_199 rfl fk_z_283 hv9 ?_
  obtain ⟨b11, hb11, h⟩ := some_of_bind h
  obtain ⟨q10, hq10, h⟩ := some_of_bind h
  refine J_cVr 205 dX0_months_202 rfl ykX2_as (Or.inl q1634) q1586 q1587 (Nat.le_of_ble_eq_true rfl) cs_nil (by decide) [va_rf v9] hb11 (by decide) rfl rfl rfl (sX2_as hγ q7.1 v9 q7.2 q10 hq10) ?_
  refine J_popr 206 dX0_months_205 rfl ?_
  refine J_aload_n (i := 0) 0 207 dX0_months_206 rfl rfl rfl ?_
  refine J_iload (i := 4) 1 209 dX0_months_207 rfl rfl ?_
  obtain ⟨b13, hb13, h⟩ := some_of_bind h
  obtain ⟨q12, hq12, h⟩ := some_of_bind h
  refine J_cVi 212 dX0_months_209 rfl ykX0_tell (Or.inl q630) q632 qs7 (Nat.le_of_ble_eq_true rfl) cs_nil (by decide) [.int l4] hb13 (by decide) rfl rfl rfl (sX0_tell hγ l0 l4 q10.2 q12 hq12) ?_
  exact J_iret rfl dX0_months_212 (retI h)
def X0_months (l0 : Option Nat) (l1 : Int32) (l2 : Int32) (σ : Hp) : Option (Int32 × Hp) :=
  (X0_in l1.toInt64 (0 : Int64) (1000000 : Int64) σ).bind fun q1 =>
  if q1.1 = 0 then
    X0_months_c24  l0  q1.2
  else
    (X0_in l2.toInt64 (1 : Int64) (60 : Int64) q1.2).bind fun q3 =>
    if q3.1 = 0 then
      X0_months_c24  l0  q3.2
    else
      (some (hsz q3.2)).bind fun b6 =>
      (X30_init (some (hsz q3.2)) l1 (wN q3.2 30 0 1)).bind fun q5 =>
      (gR q5 l0 [0] 5).bind fun v7 =>
      (cT q5 l0 0).bind fun b9 =>
      (X0_books l0  q5).bind fun q8 =>
      (cT q8.2 v7 2).bind fun b11 =>
      (X2_as v7 q8.1 q8.2).bind fun q10 =>
      X0_months_c57 l0 l2 (some (hsz q3.2)) (fun x12 τ13 =>
        X0_months_c177  l0 x12  τ13) FUEL (0 : Int32) (0 : Int32) q10.2
set_option maxHeartbeats 4000000 in
theorem sX0_months {γ : GP} (hγ : GOK γ) (l0 : Option Nat) (l1 : Int32) (l2 : Int32) (σ : Hp) (q : (Int32 × Hp)) (h : X0_months l0 l1 l2 σ = some q) : Rn γ mX0_months yX0_months [va_rf l0, .int l1, .int l2] (σ, .inr (some (.int q.1)), q.2) := by
  refine J_m hγ ykX0_months rfl [(1, va_rf l0), (1, .int l1), (1, .int l2)] (cats_r (cats_i (cats_i cats_nil))) (Nat.le_of_ble_eq_true rfl) ?_
  show J γ mX0_months _ σ 0 [(0, 1, va_rf l0), (1, 1, .int l1), (2, 1, .int l2)] []
  unfold X0_months at h
  refine J_iload_n (i := 1) 1 1 dX0_months_0 rfl rfl rfl ?_
  refine J_i2l 2 dX0_months_1 rfl ?_
  refine J_lconst 3 dX0_months_2 rfl (0 : Int64) rfl ?_
  refine J_ldc2 (v := (1000000 : Int64)) 6 dX0_months_3 rfl q2132 ?_
  obtain ⟨q1, hq1, h⟩ := some_of_bind h
  refine J_cSi 9 dX0_months_6 rfl ykX0_in (Or.inl q484) q485 (Nat.le_of_ble_eq_true rfl) cs_nil (by decide) [.long l1.toInt64, .long (0 : Int64), .long (1000000 : Int64)] rfl rfl (sX0_in hγ l1.toInt64 (0 : Int64) (1000000 : Int64) σ q1 hq1) ?_
  refine J_if_eq 24 12 dX0_months_9 (by decide) rfl (fun c2 => ?_) (fun c2 => ?_)
  · rw [if_pos c2] at h
    refine J.pick [0] rfl ?_
    exact jX0_months_c24 hγ l0  q1.2 h
  · rw [if_neg c2] at h
    refine J_iload_n (i := 2) 2 13 dX0_months_12 rfl rfl rfl ?_
    refine J_i2l 14 dX0_months_13 rfl ?_
    refine J_lconst 15 dX0_months_14 rfl (1 : Int64) rfl ?_
    refine J_ldc2 (v := (60 : Int64)) 18 dX0_months_15 rfl q2133 ?_
    obtain ⟨q3, hq3, h⟩ := some_of_bind h
    refine J_cSi 21 dX0_months_18 rfl ykX0_in (Or.inl q484) q485 (Nat.le_of_ble_eq_true rfl) cs_nil (by decide) [.long l2.toInt64, .long (1 : Int64), .long (60 : Int64)] rfl rfl (sX0_in hγ l2.toInt64 (1 : Int64) (60 : Int64) q1.2 q3 hq3) ?_
    refine J_if_ne 30 24 dX0_months_21 (by decide) rfl (fun c4 => ?_) (fun c4 => ?_)
    · rw [if_neg c4] at h
      refine J_new (c9 := 30) (nsl := 1) rfl (by decide) (by decide +kernel) q2134 q2135 q179 33 dX0_months_30 rfl ?_
      refine J_dupr 34 dX0_months_33 rfl ?_
      refine J_iload_n (i := 1) 1 35 dX0_months_34 rfl rfl rfl ?_
      obtain ⟨b6, hb6, h⟩ := some_of_bind h
      obtain ⟨q5, hq5, h⟩ := some_of_bind h
      refine J_cI 38 dX0_months_35 rfl ykX30_init rfl (Or.inl q2136) q2137 rfl (Nat.le_of_ble_eq_true rfl) (cs_rf cs_nil) (by decide) [.int l1] hb6 rfl rfl (sX30_init hγ (some (hsz q3.2)) l1 (wN q3.2 30 0 1) q5 hq5) ?_
      refine J_astore_n (i := 3) 39 [(3, 1, va_rf (some (hsz q3.2))), (0, 1, va_rf l0), (1, 1, .int l1), (2, 1, .int l2)] dX0_months_38 rfl rfl (Nat.le_of_ble_eq_true rfl) rfl ?_
      refine J_aload_n (i := 0) 1 40 dX0_months_39 rfl rfl rfl ?_
      obtain ⟨v7, hv7, h⟩ := some_of_bind h
      refine J_gR 43 dX0_months_40 rfl fk_z_283 hv7 ?_
      refine J_aload_n (i := 0) 1 44 dX0_months_43 rfl rfl rfl ?_
      obtain ⟨b9, hb9, h⟩ := some_of_bind h
      obtain ⟨q8, hq8, h⟩ := some_of_bind h
      refine J_cVr 47 dX0_months_44 rfl ykX0_books (Or.inl q499) q501 qs2 (Nat.le_of_ble_eq_true rfl) (cs_rf cs_nil) (by decide) [] hb9 (by decide) rfl rfl rfl (sX0_books hγ l0  q5 q8 hq8) ?_
      obtain ⟨b11, hb11, h⟩ := some_of_bind h
      obtain ⟨q10, hq10, h⟩ := some_of_bind h
      refine J_cVr 50 dX0_months_47 rfl ykX2_as (Or.inl q1634) q1586 q1587 (Nat.le_of_ble_eq_true rfl) cs_nil (by decide) [va_rf q8.1] hb11 (by decide) rfl rfl rfl (sX2_as hγ v7 q8.1 q8.2 q10 hq10) ?_
      refine J_popr 51 dX0_months_50 rfl ?_
      refine J_ic 52 dX0_months_51 rfl (0 : Int32) kic_0 ?_
      refine J_istore (i := 4) 54 [(4, 1, .int (0 : Int32)), (3, 1, va_rf (some (hsz q3.2))), (0, 1, va_rf l0), (1, 1, .int l1), (2, 1, .int l2)] dX0_months_52 rfl (Nat.le_of_ble_eq_true rfl) rfl ?_
      refine J_ic 55 dX0_months_54 rfl (0 : Int32) kic_0 ?_
      refine J_istore (i := 5) 57 [(5, 1, .int (0 : Int32)), (4, 1, .int (0 : Int32)), (3, 1, va_rf (some (hsz q3.2))), (0, 1, va_rf l0), (1, 1, .int l1), (2, 1, .int l2)] dX0_months_55 rfl (Nat.le_of_ble_eq_true rfl) rfl ?_
      refine J.pick [3, 5, 2, 1, 0] rfl ?_
      refine jX0_months_c57 hγ l0 l2 (some (hsz q3.2)) (fun x12 τ13 h => ?_) FUEL (0 : Int32) (0 : Int32) q10.2 h
      · exact jX0_months_c177 hγ l0 x12  τ13 h
    · rw [if_pos c4] at h
      refine J.pick [0] rfl ?_
      exact jX0_months_c24 hγ l0  q3.2 h
abbrev mX0_replayed : MP := (cX0_replayed, "MissCurves", 7, (Option.some FieldType.int), 4, "replayed", [])
theorem ykX0_replayed : YK yX0_replayed mX0_replayed 2 := ⟨q1849, q128, ⟨by decide, by decide⟩, by decide +kernel, Nat.le_of_ble_eq_true rfl, by decide, rfl, rfl⟩
theorem fk_z_284 : FOK "MissCurves" 167 [3] 7 isI := FOK.one (by decide) rfl (Nat.le_of_ble_eq_true rfl) (Or.inr ⟨_, q253⟩) rfl
def X0_replayed_c28 (l1 : Option Nat) (l3 : Option Nat) (l4 : Option Nat)  : Nat → Int32 → Int32 → Hp → Option (Int32 × Hp)
  | 0, _, _, _ => none
  | n + 1, l5, l6, σ =>
    (gI σ l1 [3] 7).bind fun v1 =>
    if v1 ≤ l6 then
      some (l5, σ)
    else
      (cT σ l3 24).bind fun b4 =>
      (X24_read l3 l4 σ).bind fun q3 =>
      if q3.1 = 0 then
        X0_replayed_c28 l1 l3 l4 n (l5 + (0 : Int32)) (l6 + (1 : Int32)) q3.2
      else
        X0_replayed_c28 l1 l3 l4 n (l5 + (1 : Int32)) (l6 + (1 : Int32)) q3.2
set_option maxHeartbeats 4000000 in
theorem jX0_replayed_c28 {γ : GP} {σ0 : Hp} {q : (Int32 × Hp)} (hγ : GOK γ) (l1 : Option Nat) (l3 : Option Nat) (l4 : Option Nat)  : ∀ (n : Nat) (l5 : Int32) (l6 : Int32) (σ : Hp), X0_replayed_c28 l1 l3 l4 n l5 l6 σ = some q → J γ mX0_replayed (σ0, .inr (some (.int q.1)), q.2) σ 28 [(1, 1, va_rf l1), (3, 1, va_rf l3), (4, 1, va_rf l4), (5, 1, .int l5), (6, 1, .int l6)] [] := by
  intro n
  induction n with
  | zero => intro l5 l6 σ h; exact nomatch (show none = some q from h)
  | succ n ih =>
    intro l5 l6 σ h
    rw [X0_replayed_c28] at h
    refine J_iload (i := 6) 4 30 dX0_replayed_28 rfl rfl ?_
    refine J_aload_n (i := 1) 0 31 dX0_replayed_30 rfl rfl rfl ?_
    obtain ⟨v1, hv1, h⟩ := some_of_bind h
    refine J_gI 34 dX0_replayed_31 rfl fk_z_284 hv1 ?_
    refine J_icmp_ge 62 37 dX0_replayed_34 (by decide) rfl (fun c2 => ?_) (fun c2 => ?_)
    · rw [if_pos c2] at h
      refine J_iload (i := 5) 3 64 dX0_replayed_62 rfl rfl ?_
      exact J_iret rfl dX0_replayed_64 (retI h)
    · rw [if_neg c2] at h
      refine J_iload (i := 5) 3 39 dX0_replayed_37 rfl rfl ?_
      refine J_aload_n (i := 3) 1 40 dX0_replayed_39 rfl rfl rfl ?_
      refine J_aload (i := 4) 2 42 dX0_replayed_40 rfl rfl ?_
      obtain ⟨b4, hb4, h⟩ := some_of_bind h
      obtain ⟨q3, hq3, h⟩ := some_of_bind h
      refine J_cVi 45 dX0_replayed_42 rfl ykX24_read (Or.inl q1923) q1924 q1925 (Nat.le_of_ble_eq_true rfl) (cs_int cs_nil) (by decide) [va_rf l4] hb4 (by decide) rfl rfl rfl (sX24_read hγ l3 l4 σ q3 hq3) ?_
      refine J_if_eq 52 48 dX0_replayed_45 (by decide) rfl (fun c5 => ?_) (fun c5 => ?_)
      · rw [if_pos c5] at h
        refine J_ic 53 dX0_replayed_52 rfl (0 : Int32) kic_0 ?_
        refine J_iadd 54 dX0_replayed_53 rfl ?_
        refine J_istore (i := 5) 56 [(5, 1, .int (l5 + (0 : Int32))), (1, 1, va_rf l1), (3, 1, va_rf l3), (4, 1, va_rf l4), (6, 1, .int l6)] dX0_replayed_54 rfl (Nat.le_of_ble_eq_true rfl) rfl ?_
        refine J_iinc (i := 6) (v := l6 + (1 : Int32)) 4 59 [(6, 1, .int (l6 + (1 : Int32))), (5, 1, .int (l5 + (0 : Int32))), (1, 1, va_rf l1), (3, 1, va_rf l3), (4, 1, va_rf l4)] dX0_replayed_56 rfl rfl (Nat.le_of_ble_eq_true rfl) (by rw [kic_1]) rfl ?_
        refine J_goto 28 dX0_replayed_59 (by decide) ?_
        refine J.pick [2, 3, 4, 1, 0] rfl ?_
        exact ih (l5 + (0 : Int32)) (l6 + (1 : Int32)) q3.2 h
      · rw [if_neg c5] at h
        refine J_ic 49 dX0_replayed_48 rfl (1 : Int32) kic_1 ?_
        refine J_goto 53 dX0_replayed_49 (by decide) ?_
        refine J_iadd 54 dX0_replayed_53 rfl ?_
        refine J_istore (i := 5) 56 [(5, 1, .int (l5 + (1 : Int32))), (1, 1, va_rf l1), (3, 1, va_rf l3), (4, 1, va_rf l4), (6, 1, .int l6)] dX0_replayed_54 rfl (Nat.le_of_ble_eq_true rfl) rfl ?_
        refine J_iinc (i := 6) (v := l6 + (1 : Int32)) 4 59 [(6, 1, .int (l6 + (1 : Int32))), (5, 1, .int (l5 + (1 : Int32))), (1, 1, va_rf l1), (3, 1, va_rf l3), (4, 1, va_rf l4)] dX0_replayed_56 rfl rfl (Nat.le_of_ble_eq_true rfl) (by rw [kic_1]) rfl ?_
        refine J_goto 28 dX0_replayed_59 (by decide) ?_
        refine J.pick [2, 3, 4, 1, 0] rfl ?_
        exact ih (l5 + (1 : Int32)) (l6 + (1 : Int32)) q3.2 h
def X0_replayed (l0 : Option Nat) (l1 : Option Nat) (l2 : Int32) (σ : Hp) : Option (Int32 × Hp) :=
  (some (hsz σ)).bind fun b2 =>
  (X24_init (some (hsz σ)) l1 l2 (wN σ 24 0 7)).bind fun q1 =>
  (gR q1 l0 [0] 0).bind fun v3 =>
  (gI q1 v3 [1] 4).bind fun v4 =>
  (X8_of v4 q1).bind fun q5 =>
  X0_replayed_c28 l1 (some (hsz σ)) q5.1  FUEL (0 : Int32) (0 : Int32) q5.2
set_option maxHeartbeats 4000000 in
theorem sX0_replayed {γ : GP} (hγ : GOK γ) (l0 : Option Nat) (l1 : Option Nat) (l2 : Int32) (σ : Hp) (q : (Int32 × Hp)) (h : X0_replayed l0 l1 l2 σ = some q) : Rn γ mX0_replayed yX0_replayed [va_rf l0, va_rf l1, .int l2] (σ, .inr (some (.int q.1)), q.2) := by
  refine J_m hγ ykX0_replayed rfl [(1, va_rf l0), (1, va_rf l1), (1, .int l2)] (cats_r (cats_r (cats_i cats_nil))) (Nat.le_of_ble_eq_true rfl) ?_
  show J γ mX0_replayed _ σ 0 [(0, 1, va_rf l0), (1, 1, va_rf l1), (2, 1, .int l2)] []
  unfold X0_replayed at h
  refine J_new (c9 := 24) (nsl := 7) rfl (by decide) (by decide +kernel) q1850 q1851 q173 3 dX0_replayed_0 rfl ?_
  refine J_dupr 4 dX0_replayed_3 rfl ?_
  refine J_aload_n (i := 1) 1 5 dX0_replayed_4 rfl rfl rfl ?_
  refine J_iload_n (i := 2) 2 6 dX0_replayed_5 rfl rfl rfl ?_
  obtain ⟨b2, hb2, h⟩ := some_of_bind h
  obtain ⟨q1, hq1, h⟩ := some_of_bind h
  refine J_cI 9 dX0_replayed_6 rfl ykX24_init rfl (Or.inl q1852) q1853 rfl (Nat.le_of_ble_eq_true rfl) (cs_rf cs_nil) (by decide) [va_rf l1, .int l2] hb2 rfl rfl (sX24_init hγ (some (hsz σ)) l1 l2 (wN σ 24 0 7) q1 hq1) ?_
  refine J_astore_n (i := 3) 10 [(3, 1, va_rf (some (hsz σ))), (0, 1, va_rf l0), (1, 1, va_rf l1), (2, 1, .int l2)] dX0_replayed_9 rfl rfl (Nat.le_of_ble_eq_true rfl) rfl ?_
  refine J_aload_n (i := 0) 1 11 dX0_replayed_10 rfl rfl rfl ?_
  obtain ⟨v3, hv3, h⟩ := some_of_bind h
  refine J_gR 14 dX0_replayed_11 rfl fk_x_133 hv3 ?_
  obtain ⟨v4, hv4, h⟩ := some_of_bind h
  refine J_gI 17 dX0_replayed_14 rfl fk_z_269 hv4 ?_
  obtain ⟨q5, hq5, h⟩ := some_of_bind h
  refine J_cSr 20 dX0_replayed_17 rfl ykX8_of (Or.inl q1885) q1886 (Nat.le_of_ble_eq_true rfl) cs_nil (by decide) [.int v4] rfl rfl (sX8_of hγ v4 q1 q5 hq5) ?_
  refine J_astore (i := 4) 22 [(4, 1, va_rf q5.1), (3, 1, va_rf (some (hsz σ))), (0, 1, va_rf l0), (1, 1, va_rf l1), (2, 1, .int l2)] dX0_replayed_20 rfl (Nat.le_of_ble_eq_true rfl) rfl ?_
  refine J_ic 23 dX0_replayed_22 rfl (0 : Int32) kic_0 ?_
  refine J_istore (i := 5) 25 [(5, 1, .int (0 : Int32)), (4, 1, va_rf q5.1), (3, 1, va_rf (some (hsz σ))), (0, 1, va_rf l0), (1, 1, va_rf l1), (2, 1, .int l2)] dX0_replayed_23 rfl (Nat.le_of_ble_eq_true rfl) rfl ?_
  refine J_ic 26 dX0_replayed_25 rfl (0 : Int32) kic_0 ?_
  refine J_istore (i := 6) 28 [(6, 1, .int (0 : Int32)), (5, 1, .int (0 : Int32)), (4, 1, va_rf q5.1), (3, 1, va_rf (some (hsz σ))), (0, 1, va_rf l0), (1, 1, va_rf l1), (2, 1, .int l2)] dX0_replayed_26 rfl (Nat.le_of_ble_eq_true rfl) rfl ?_
  refine J.pick [5, 3, 2, 1, 0] rfl ?_
  refine jX0_replayed_c28 hγ l1 (some (hsz σ)) q5.1  FUEL (0 : Int32) (0 : Int32) q5.2 h
abbrev mX0_odd : MP := (cX0_odd, "MissCurves", 3, (Option.some FieldType.int), 5, "odd", [])
theorem ykX0_odd : YK yX0_odd mX0_odd 1 := ⟨q2008, q128, ⟨by decide, by decide⟩, by decide +kernel, Nat.le_of_ble_eq_true rfl, by decide, rfl, rfl⟩
def X0_odd_c11 (l0 : Option Nat) (l1 : Int32)  : Nat → Int32 → Hp → Option (Int32 × Hp)
  | 0, _, _ => none
  | n + 1, l2, σ =>
    if (24 : Int32) ≤ l2 then
      some ((-1 : Int32), σ)
    else
      (cT σ l0 0).bind fun b3 =>
      (X0_book l0 l1 σ).bind fun q2 =>
      (cT q2.2 l0 0).bind fun b5 =>
      (X0_replayed l0 q2.1 (l2 + (1 : Int32)) q2.2).bind fun q4 =>
      (cT q4.2 l0 0).bind fun b7 =>
      (X0_book l0 l1 q4.2).bind fun q6 =>
      (cT q6.2 l0 0).bind fun b9 =>
      (X0_replayed l0 q6.1 l2 q6.2).bind fun q8 =>
      if q4.1 ≤ q8.1 then
        X0_odd_c11 l0 l1 n (l2 + (1 : Int32)) q8.2
      else
        some (l2, q8.2)
set_option maxHeartbeats 4000000 in
theorem jX0_odd_c11 {γ : GP} {σ0 : Hp} {q : (Int32 × Hp)} (hγ : GOK γ) (l0 : Option Nat) (l1 : Int32)  : ∀ (n : Nat) (l2 : Int32) (σ : Hp), X0_odd_c11 l0 l1 n l2 σ = some q → J γ mX0_odd (σ0, .inr (some (.int q.1)), q.2) σ 11 [(0, 1, va_rf l0), (1, 1, .int l1), (2, 1, .int l2)] [] := by
  intro n
  induction n with
  | zero => intro l2 σ h; exact nomatch (show none = some q from h)
  | succ n ih =>
    intro l2 σ h
    rw [X0_odd_c11] at h
    refine J_iload_n (i := 2) 2 12 dX0_odd_11 rfl rfl rfl ?_
    refine J_bipush 14 dX0_odd_12 rfl (24 : Int32) kbp_24 ?_
    refine J_icmp_ge 50 17 dX0_odd_14 (by decide) rfl (fun c1 => ?_) (fun c1 => ?_)
    · rw [if_pos c1] at h
      refine J_ic 51 dX0_odd_50 rfl (-1 : Int32) kic_m1 ?_
      exact J_iret rfl dX0_odd_51 (retI h)
    · rw [if_neg c1] at h
      refine J_aload_n (i := 0) 0 18 dX0_odd_17 rfl rfl rfl ?_
      refine J_aload_n (i := 0) 0 19 dX0_odd_18 rfl rfl rfl ?_
      refine J_iload_n (i := 1) 1 20 dX0_odd_19 rfl rfl rfl ?_
      obtain ⟨b3, hb3, h⟩ := some_of_bind h
      obtain ⟨q2, hq2, h⟩ := some_of_bind h
      refine J_cVr 23 dX0_odd_20 rfl ykX0_book (Or.inl q495) q497 qs1 (Nat.le_of_ble_eq_true rfl) (cs_rf cs_nil) (by decide) [.int l1] hb3 (by decide) rfl rfl rfl (sX0_book hγ l0 l1 σ q2 hq2) ?_
      refine J_iload_n (i := 2) 2 24 dX0_odd_23 rfl rfl rfl ?_
      refine J_ic 25 dX0_odd_24 rfl (1 : Int32) kic_1 ?_
      refine J_iadd 26 dX0_odd_25 rfl ?_
      obtain ⟨b5, hb5, h⟩ := some_of_bind h
      obtain ⟨q4, hq4, h⟩ := some_of_bind h
      refine J_cVi 29 dX0_odd_26 rfl ykX0_replayed (Or.inl q1846) q1848 qs32 (Nat.le_of_ble_eq_true rfl) cs_nil (by decide) [va_rf q2.1, .int (l2 + (1 : Int32))] hb5 (by decide) rfl rfl rfl (sX0_replayed hγ l0 q2.1 (l2 + (1 : Int32)) q2.2 q4 hq4) ?_
      refine J_aload_n (i := 0) 0 30 dX0_odd_29 rfl rfl rfl ?_
      refine J_aload_n (i := 0) 0 31 dX0_odd_30 rfl rfl rfl ?_
      refine J_iload_n (i := 1) 1 32 dX0_odd_31 rfl rfl rfl ?_
      obtain ⟨b7, hb7, h⟩ := some_of_bind h
      obtain ⟨q6, hq6, h⟩ := some_of_bind h
      refine J_cVr 35 dX0_odd_32 rfl ykX0_book (Or.inl q495) q497 qs1 (Nat.le_of_ble_eq_true rfl) (cs_rf (cs_int cs_nil)) (by decide) [.int l1] hb7 (by decide) rfl rfl rfl (sX0_book hγ l0 l1 q4.2 q6 hq6) ?_
      refine J_iload_n (i := 2) 2 36 dX0_odd_35 rfl rfl rfl ?_
      obtain ⟨b9, hb9, h⟩ := some_of_bind h
      obtain ⟨q8, hq8, h⟩ := some_of_bind h
      refine J_cVi 39 dX0_odd_36 rfl ykX0_replayed (Or.inl q1846) q1848 qs32 (Nat.le_of_ble_eq_true rfl) (cs_int cs_nil) (by decide) [va_rf q6.1, .int l2] hb9 (by decide) rfl rfl rfl (sX0_replayed hγ l0 q6.1 l2 q6.2 q8 hq8) ?_
      refine J_icmp_le 44 42 dX0_odd_39 (by decide) rfl (fun c10 => ?_) (fun c10 => ?_)
      · rw [if_pos c10] at h
        refine J_iinc (i := 2) (v := l2 + (1 : Int32)) 2 47 [(2, 1, .int (l2 + (1 : Int32))), (0, 1, va_rf l0), (1, 1, .int l1)] dX0_odd_44 rfl rfl (Nat.le_of_ble_eq_true rfl) (by rw [kic_1]) rfl ?_
        refine J_goto 11 dX0_odd_47 (by decide) ?_
        refine J.pick [1, 2, 0] rfl ?_
        exact ih (l2 + (1 : Int32)) q8.2 h
      · rw [if_neg c10] at h
        refine J_iload_n (i := 2) 2 43 dX0_odd_42 rfl rfl rfl ?_
        exact J_iret rfl dX0_odd_43 (retI h)
def X0_odd (l0 : Option Nat) (l1 : Int32) (σ : Hp) : Option (Int32 × Hp) :=
  (X0_isTenant l1 σ).bind fun q1 =>
  if q1.1 = 0 then
    some ((-1 : Int32), q1.2)
  else
    X0_odd_c11 l0 l1  FUEL (0 : Int32) q1.2
set_option maxHeartbeats 4000000 in
theorem sX0_odd {γ : GP} (hγ : GOK γ) (l0 : Option Nat) (l1 : Int32) (σ : Hp) (q : (Int32 × Hp)) (h : X0_odd l0 l1 σ = some q) : Rn γ mX0_odd yX0_odd [va_rf l0, .int l1] (σ, .inr (some (.int q.1)), q.2) := by
  refine J_m hγ ykX0_odd rfl [(1, va_rf l0), (1, .int l1)] (cats_r (cats_i cats_nil)) (Nat.le_of_ble_eq_true rfl) ?_
  show J γ mX0_odd _ σ 0 [(0, 1, va_rf l0), (1, 1, .int l1)] []
  unfold X0_odd at h
  refine J_iload_n (i := 1) 1 1 dX0_odd_0 rfl rfl rfl ?_
  obtain ⟨q1, hq1, h⟩ := some_of_bind h
  refine J_cSi 4 dX0_odd_1 rfl ykX0_isTenant (Or.inl q491) q492 (Nat.le_of_ble_eq_true rfl) cs_nil (by decide) [.int l1] rfl rfl (sX0_isTenant hγ l1 σ q1 hq1) ?_
  refine J_if_ne 9 7 dX0_odd_4 (by decide) rfl (fun c2 => ?_) (fun c2 => ?_)
  · rw [if_neg c2] at h
    refine J_ic 10 dX0_odd_9 rfl (0 : Int32) kic_0 ?_
    refine J_istore_n (i := 2) 11 [(2, 1, .int (0 : Int32)), (0, 1, va_rf l0), (1, 1, .int l1)] dX0_odd_10 rfl rfl (Nat.le_of_ble_eq_true rfl) rfl ?_
    refine J.pick [1, 2, 0] rfl ?_
    refine jX0_odd_c11 hγ l0 l1  FUEL (0 : Int32) q1.2 h
  · rw [if_pos c2] at h
    refine J_ic 8 dX0_odd_7 rfl (-1 : Int32) kic_m1 ?_
    exact J_iret rfl dX0_odd_8 (retI h)
abbrev mX0_of : MP := (cX0_of, "MissCurves", 4, (Option.some FieldType.int), 2, "of", [])
theorem ykX0_of : YK yX0_of mX0_of 2 := ⟨q490, q128, ⟨by decide, by decide⟩, by decide +kernel, Nat.le_of_ble_eq_true rfl, by decide, rfl, rfl⟩
theorem fk_z_285 : FOK "MissCurves" 158 [3] 5 isI := FOK.one (by decide) rfl (Nat.le_of_ble_eq_true rfl) (Or.inr ⟨_, q248⟩) rfl
theorem fk_z_286 : FOK "MissCurves" 161 [3] 6 isI := FOK.one (by decide) rfl (Nat.le_of_ble_eq_true rfl) (Or.inr ⟨_, q250⟩) rfl
def X0_of (l0 : Option Nat) (l1 : Int32) (l2 : Int32) (σ : Hp) : Option (Int32 × Hp) :=
  (X0_isTenant l1 σ).bind fun q1 =>
  if q1.1 = 0 then
    some ((-1 : Int32), q1.2)
  else
    (cT q1.2 l0 0).bind fun b4 =>
    (X0_book l0 l1 q1.2).bind fun q3 =>
    if l2 = (0 : Int32) then
      (gI q3.2 q3.1 [3] 5).bind fun v6 =>
      some (v6, q3.2)
    else
    if l2 = (1 : Int32) then
      (gI q3.2 q3.1 [3] 6).bind fun v8 =>
      some (v8, q3.2)
    else
    if l2 = (2 : Int32) then
      (gI q3.2 q3.1 [3] 8).bind fun v10 =>
      some (v10, q3.2)
    else
    if l2 = (3 : Int32) then
      (gI q3.2 q3.1 [3] 7).bind fun v12 =>
      some (v12, q3.2)
    else
    (X0_in l2.toInt64 (4 : Int64) (28 : Int64) q3.2).bind fun q13 =>
    if q13.1 = 0 then
      some ((-1 : Int32), q13.2)
    else
      (gR q13.2 q3.1 [3] 1).bind fun v15 =>
      (aI 0 q13.2 v15 (l2 - (4 : Int32))).bind fun v16 =>
      some (v16, q13.2)
set_option maxHeartbeats 4000000 in
theorem sX0_of {γ : GP} (hγ : GOK γ) (l0 : Option Nat) (l1 : Int32) (l2 : Int32) (σ : Hp) (q : (Int32 × Hp)) (h : X0_of l0 l1 l2 σ = some q) : Rn γ mX0_of yX0_of [va_rf l0, .int l1, .int l2] (σ, .inr (some (.int q.1)), q.2) := by
  refine J_m hγ ykX0_of rfl [(1, va_rf l0), (1, .int l1), (1, .int l2)] (cats_r (cats_i (cats_i cats_nil))) (Nat.le_of_ble_eq_true rfl) ?_
  show J γ mX0_of _ σ 0 [(0, 1, va_rf l0), (1, 1, .int l1), (2, 1, .int l2)] []
  unfold X0_of at h
  refine J_iload_n (i := 1) 1 1 dX0_of_0 rfl rfl rfl ?_
  obtain ⟨q1, hq1, h⟩ := some_of_bind h
  refine J_cSi 4 dX0_of_1 rfl ykX0_isTenant (Or.inl q491) q492 (Nat.le_of_ble_eq_true rfl) cs_nil (by decide) [.int l1] rfl rfl (sX0_isTenant hγ l1 σ q1 hq1) ?_
  refine J_if_ne 9 7 dX0_of_4 (by decide) rfl (fun c2 => ?_) (fun c2 => ?_)
  · rw [if_neg c2] at h
    refine J_aload_n (i := 0) 0 10 dX0_of_9 rfl rfl rfl ?_
    refine J_iload_n (i := 1) 1 11 dX0_of_10 rfl rfl rfl ?_
    obtain ⟨b4, hb4, h⟩ := some_of_bind h
    obtain ⟨q3, hq3, h⟩ := some_of_bind h
    refine J_cVr 14 dX0_of_11 rfl ykX0_book (Or.inl q495) q497 qs1 (Nat.le_of_ble_eq_true rfl) cs_nil (by decide) [.int l1] hb4 (by decide) rfl rfl rfl (sX0_book hγ l0 l1 q1.2 q3 hq3) ?_
    refine J_astore_n (i := 3) 15 [(3, 1, va_rf q3.1), (0, 1, va_rf l0), (1, 1, .int l1), (2, 1, .int l2)] dX0_of_14 rfl rfl (Nat.le_of_ble_eq_true rfl) rfl ?_
    refine J_iload_n (i := 2) 3 16 dX0_of_15 rfl rfl rfl ?_
    rcases Classical.em (l2 = (0 : Int32)) with c5 | c5
    · rw [if_pos c5] at h
      refine J_tsC c5 48 dX0_of_16 (by decide) (by decide) rfl (by decide) ?_
      refine J_aload_n (i := 3) 0 49 dX0_of_48 rfl rfl rfl ?_
      obtain ⟨v6, hv6, h⟩ := some_of_bind h
      refine J_gI 52 dX0_of_49 rfl fk_z_285 hv6 ?_
      exact J_iret rfl dX0_of_52 (retI h)
    · rw [if_neg c5] at h
      rcases Classical.em (l2 = (1 : Int32)) with c7 | c7
      · rw [if_pos c7] at h
        refine J_tsC c7 53 dX0_of_16 (by decide) (by decide) rfl (by decide) ?_
        refine J_aload_n (i := 3) 0 54 dX0_of_53 rfl rfl rfl ?_
        obtain ⟨v8, hv8, h⟩ := some_of_bind h
        refine J_gI 57 dX0_of_54 rfl fk_z_286 hv8 ?_
        exact J_iret rfl dX0_of_57 (retI h)
      · rw [if_neg c7] at h
        rcases Classical.em (l2 = (2 : Int32)) with c9 | c9
        · rw [if_pos c9] at h
          refine J_tsC c9 58 dX0_of_16 (by decide) (by decide) rfl (by decide) ?_
          refine J_aload_n (i := 3) 0 59 dX0_of_58 rfl rfl rfl ?_
          obtain ⟨v10, hv10, h⟩ := some_of_bind h
          refine J_gI 62 dX0_of_59 rfl fk_z_280 hv10 ?_
          exact J_iret rfl dX0_of_62 (retI h)
        · rw [if_neg c9] at h
          rcases Classical.em (l2 = (3 : Int32)) with c11 | c11
          · rw [if_pos c11] at h
            refine J_tsC c11 63 dX0_of_16 (by decide) (by decide) rfl (by decide) ?_
            refine J_aload_n (i := 3) 0 64 dX0_of_63 rfl rfl rfl ?_
            obtain ⟨v12, hv12, h⟩ := some_of_bind h
            refine J_gI 67 dX0_of_64 rfl fk_z_284 hv12 ?_
            exact J_iret rfl dX0_of_67 (retI h)
          · rw [if_neg c11] at h
            refine J_tsOut 68 dX0_of_16 (by have a0 := lv_neT c5 (a := 0) (by decide); have a1 := lv_neT c7 (a := 1) (by decide); have a2 := lv_neT c9 (a := 2) (by decide); have a3 := lv_neT c11 (a := 3) (by decide); omega) (by decide) ?_
            refine J_iload_n (i := 2) 3 69 dX0_of_68 rfl rfl rfl ?_
            refine J_i2l 70 dX0_of_69 rfl ?_
            refine J_ldc2 (v := (4 : Int64)) 73 dX0_of_70 rfl q503 ?_
            refine J_ldc2 (v := (28 : Int64)) 76 dX0_of_73 rfl q504 ?_
            obtain ⟨q13, hq13, h⟩ := some_of_bind h
            refine J_cSi 79 dX0_of_76 rfl ykX0_in (Or.inl q484) q485 (Nat.le_of_ble_eq_true rfl) cs_nil (by decide) [.long l2.toInt64, .long (4 : Int64), .long (28 : Int64)] rfl rfl (sX0_in hγ l2.toInt64 (4 : Int64) (28 : Int64) q3.2 q13 hq13) ?_
            refine J_if_eq 93 82 dX0_of_79 (by decide) rfl (fun c14 => ?_) (fun c14 => ?_)
            · rw [if_pos c14] at h
              refine J_ic 94 dX0_of_93 rfl (-1 : Int32) kic_m1 ?_
              exact J_iret rfl dX0_of_94 (retI h)
            · rw [if_neg c14] at h
              refine J_aload_n (i := 3) 0 83 dX0_of_82 rfl rfl rfl ?_
              obtain ⟨v15, hv15, h⟩ := some_of_bind h
              refine J_gR 86 dX0_of_83 rfl fk_z_279 hv15 ?_
              refine J_iload_n (i := 2) 3 87 dX0_of_86 rfl rfl rfl ?_
              refine J_ic 88 dX0_of_87 rfl (4 : Int32) kic_4 ?_
              refine J_isub 89 dX0_of_88 rfl ?_
              obtain ⟨v16, hv16, h⟩ := some_of_bind h
              refine J_iald 90 dX0_of_89 rfl hv16 ?_
              refine J_goto 94 dX0_of_90 (by decide) ?_
              exact J_iret rfl dX0_of_94 (retI h)
  · rw [if_pos c2] at h
    refine J_ic 8 dX0_of_7 rfl (-1 : Int32) kic_m1 ?_
    exact J_iret rfl dX0_of_8 (retI h)
abbrev mX0_passNow : MP := (cX0_passNow, "MissCurves", 1, (Option.some FieldType.int), 4, "passNow", [])
theorem ykX0_passNow : YK yX0_passNow mX0_passNow 0 := ⟨q1620, q128, ⟨by decide, by decide⟩, by decide +kernel, Nat.le_of_ble_eq_true rfl, by decide, rfl, rfl⟩
def X0_passNow (l0 : Option Nat) (σ : Hp) : Option (Int32 × Hp) :=
  (cT σ l0 0).bind fun b2 =>
  (X0_books l0  σ).bind fun q1 =>
  (gI q1.2 q1.1 [2] 1).bind fun v3 =>
  if v3 = (999 : Int32) then
    some ((-3 : Int32), q1.2)
  else
    (gR q1.2 l0 [0] 2).bind fun v5 =>
    (cT q1.2 l0 0).bind fun b7 =>
    (X0_books l0  q1.2).bind fun q6 =>
    (cT q6.2 v5 4).bind fun b9 =>
    (X4_append v5 q6.1 (3 : Int32) q6.2).bind fun q8 =>
    (cT q8 l0 0).bind fun b11 =>
    (X0_passIt l0  q8).bind fun q10 =>
    some (q10.1, q10.2)
set_option maxHeartbeats 4000000 in
theorem sX0_passNow {γ : GP} (hγ : GOK γ) (l0 : Option Nat) (σ : Hp) (q : (Int32 × Hp)) (h : X0_passNow l0 σ = some q) : Rn γ mX0_passNow yX0_passNow [va_rf l0] (σ, .inr (some (.int q.1)), q.2) := by
  refine J_m hγ ykX0_passNow rfl [(1, va_rf l0)] (cats_r cats_nil) (Nat.le_of_ble_eq_true rfl) ?_
  show J γ mX0_passNow _ σ 0 [(0, 1, va_rf l0)] []
  unfold X0_passNow at h
  refine J_aload_n (i := 0) 0 1 dX0_passNow_0 rfl rfl rfl ?_
  obtain ⟨b2, hb2, h⟩ := some_of_bind h
  obtain ⟨q1, hq1, h⟩ := some_of_bind h
  refine J_cVr 4 dX0_passNow_1 rfl ykX0_books (Or.inl q499) q501 qs2 (Nat.le_of_ble_eq_true rfl) cs_nil (by decide) [] hb2 (by decide) rfl rfl rfl (sX0_books hγ l0  σ q1 hq1) ?_
  obtain ⟨v3, hv3, h⟩ := some_of_bind h
  refine J_gI 7 dX0_passNow_4 rfl fk_z_232 hv3 ?_
  refine J_sipush 10 dX0_passNow_7 rfl (999 : Int32) ksp_999 ?_
  refine J_icmp_ne 16 13 dX0_passNow_10 (by decide) rfl (fun c4 => ?_) (fun c4 => ?_)
  · rw [if_neg c4] at h
    refine J_aload_n (i := 0) 0 17 dX0_passNow_16 rfl rfl rfl ?_
    obtain ⟨v5, hv5, h⟩ := some_of_bind h
    refine J_gR 20 dX0_passNow_17 rfl fk_z_253 hv5 ?_
    refine J_aload_n (i := 0) 0 21 dX0_passNow_20 rfl rfl rfl ?_
    obtain ⟨b7, hb7, h⟩ := some_of_bind h
    obtain ⟨q6, hq6, h⟩ := some_of_bind h
    refine J_cVr 24 dX0_passNow_21 rfl ykX0_books (Or.inl q499) q501 qs2 (Nat.le_of_ble_eq_true rfl) (cs_rf cs_nil) (by decide) [] hb7 (by decide) rfl rfl rfl (sX0_books hγ l0  q1.2 q6 hq6) ?_
    refine J_ic 25 dX0_passNow_24 rfl (3 : Int32) kic_3 ?_
    obtain ⟨b9, hb9, h⟩ := some_of_bind h
    obtain ⟨q8, hq8, h⟩ := some_of_bind h
    refine J_cVv 28 dX0_passNow_25 rfl ykX4_append (Or.inl q1580) q1581 q1582 (Nat.le_of_ble_eq_true rfl) cs_nil (by decide) [va_rf q6.1, .int (3 : Int32)] hb9 (by decide) rfl rfl rfl (sX4_append hγ v5 q6.1 (3 : Int32) q6.2 q8 hq8) ?_
    refine J_aload_n (i := 0) 0 29 dX0_passNow_28 rfl rfl rfl ?_
    obtain ⟨b11, hb11, h⟩ := some_of_bind h
    obtain ⟨q10, hq10, h⟩ := some_of_bind h
    refine J_cVi 32 dX0_passNow_29 rfl ykX0_passIt (Or.inl q1621) q1623 qs26 (Nat.le_of_ble_eq_true rfl) cs_nil (by decide) [] hb11 (by decide) rfl rfl rfl (sX0_passIt hγ l0  q8 q10 hq10) ?_
    exact J_iret rfl dX0_passNow_32 (retI h)
  · rw [if_pos c4] at h
    refine J_bipush 15 dX0_passNow_13 rfl (-3 : Int32) kbp_m3 ?_
    exact J_iret rfl dX0_passNow_15 (retI h)
abbrev mX0_pass : MP := (cX0_pass, "MissCurves", 1, (Option.some FieldType.int), 5, "pass", [])
theorem ykX0_pass : YK yX0_pass mX0_pass 0 := ⟨q1616, q128, ⟨by decide, by decide⟩, by decide +kernel, Nat.le_of_ble_eq_true rfl, by decide, rfl, rfl⟩
def X0_pass (l0 : Option Nat) (σ : Hp) : Option (Int32 × Hp) :=
  (cT σ l0 0).bind fun b2 =>
  (X0_passNow l0  σ).bind fun q1 =>
  (cT q1.2 l0 0).bind fun b4 =>
  (X0_tell l0 q1.1 q1.2).bind fun q3 =>
  some (q3.1, q3.2)
set_option maxHeartbeats 4000000 in
theorem sX0_pass {γ : GP} (hγ : GOK γ) (l0 : Option Nat) (σ : Hp) (q : (Int32 × Hp)) (h : X0_pass l0 σ = some q) : Rn γ mX0_pass yX0_pass [va_rf l0] (σ, .inr (some (.int q.1)), q.2) := by
  refine J_m hγ ykX0_pass rfl [(1, va_rf l0)] (cats_r cats_nil) (Nat.le_of_ble_eq_true rfl) ?_
  show J γ mX0_pass _ σ 0 [(0, 1, va_rf l0)] []
  unfold X0_pass at h
  refine J_aload_n (i := 0) 0 1 dX0_pass_0 rfl rfl rfl ?_
  refine J_aload_n (i := 0) 0 2 dX0_pass_1 rfl rfl rfl ?_
  obtain ⟨b2, hb2, h⟩ := some_of_bind h
  obtain ⟨q1, hq1, h⟩ := some_of_bind h
  refine J_cVi 5 dX0_pass_2 rfl ykX0_passNow (Or.inl q1617) q1619 qs25 (Nat.le_of_ble_eq_true rfl) (cs_rf cs_nil) (by decide) [] hb2 (by decide) rfl rfl rfl (sX0_passNow hγ l0  σ q1 hq1) ?_
  obtain ⟨b4, hb4, h⟩ := some_of_bind h
  obtain ⟨q3, hq3, h⟩ := some_of_bind h
  refine J_cVi 8 dX0_pass_5 rfl ykX0_tell (Or.inl q630) q632 qs7 (Nat.le_of_ble_eq_true rfl) cs_nil (by decide) [.int q1.1] hb4 (by decide) rfl rfl rfl (sX0_tell hγ l0 q1.1 q1.2 q3 hq3) ?_
  exact J_iret rfl dX0_pass_8 (retI h)
abbrev mX0_readNow : MP := (cX0_readNow, "MissCurves", 3, (Option.some FieldType.int), 110, "readNow", [])
theorem ykX0_readNow : YK yX0_readNow mX0_readNow 2 := ⟨q1579, q128, ⟨by decide, by decide⟩, by decide +kernel, Nat.le_of_ble_eq_true rfl, by decide, rfl, rfl⟩
def X0_readNow (l0 : Option Nat) (l1 : Int32) (l2 : Int32) (σ : Hp) : Option (Int32 × Hp) :=
  (X0_isTenant l1 σ).bind fun q1 =>
  if q1.1 = 0 then
    some ((-1 : Int32), q1.2)
  else
    (X0_isKey l2 q1.2).bind fun q3 =>
    if q3.1 = 0 then
      some ((-1 : Int32), q3.2)
    else
      (gR q3.2 l0 [0] 2).bind fun v5 =>
      (cT q3.2 l0 0).bind fun b7 =>
      (X0_books l0  q3.2).bind fun q6 =>
      (cT q6.2 v5 4).bind fun b9 =>
      (X4_append v5 q6.1 (0 : Int32) q6.2).bind fun q8 =>
      (cT q8 l0 0).bind fun b11 =>
      (X0_readIt l0 l1 l2 q8).bind fun q10 =>
      some (q10.1, q10.2)
set_option maxHeartbeats 4000000 in
theorem sX0_readNow {γ : GP} (hγ : GOK γ) (l0 : Option Nat) (l1 : Int32) (l2 : Int32) (σ : Hp) (q : (Int32 × Hp)) (h : X0_readNow l0 l1 l2 σ = some q) : Rn γ mX0_readNow yX0_readNow [va_rf l0, .int l1, .int l2] (σ, .inr (some (.int q.1)), q.2) := by
  refine J_m hγ ykX0_readNow rfl [(1, va_rf l0), (1, .int l1), (1, .int l2)] (cats_r (cats_i (cats_i cats_nil))) (Nat.le_of_ble_eq_true rfl) ?_
  show J γ mX0_readNow _ σ 0 [(0, 1, va_rf l0), (1, 1, .int l1), (2, 1, .int l2)] []
  unfold X0_readNow at h
  refine J_iload_n (i := 1) 1 1 dX0_readNow_0 rfl rfl rfl ?_
  obtain ⟨q1, hq1, h⟩ := some_of_bind h
  refine J_cSi 4 dX0_readNow_1 rfl ykX0_isTenant (Or.inl q491) q492 (Nat.le_of_ble_eq_true rfl) cs_nil (by decide) [.int l1] rfl rfl (sX0_isTenant hγ l1 σ q1 hq1) ?_
  refine J_if_eq 14 7 dX0_readNow_4 (by decide) rfl (fun c2 => ?_) (fun c2 => ?_)
  · rw [if_pos c2] at h
    refine J_ic 15 dX0_readNow_14 rfl (-1 : Int32) kic_m1 ?_
    exact J_iret rfl dX0_readNow_15 (retI h)
  · rw [if_neg c2] at h
    refine J_iload_n (i := 2) 2 8 dX0_readNow_7 rfl rfl rfl ?_
    obtain ⟨q3, hq3, h⟩ := some_of_bind h
    refine J_cSi 11 dX0_readNow_8 rfl ykX0_isKey (Or.inl q513) q514 (Nat.le_of_ble_eq_true rfl) cs_nil (by decide) [.int l2] rfl rfl (sX0_isKey hγ l2 q1.2 q3 hq3) ?_
    refine J_if_ne 16 14 dX0_readNow_11 (by decide) rfl (fun c4 => ?_) (fun c4 => ?_)
    · rw [if_neg c4] at h
      refine J_aload_n (i := 0) 0 17 dX0_readNow_16 rfl rfl rfl ?_
      obtain ⟨v5, hv5, h⟩ := some_of_bind h
      refine J_gR 20 dX0_readNow_17 rfl fk_z_253 hv5 ?_
      refine J_aload_n (i := 0) 0 21 dX0_readNow_20 rfl rfl rfl ?_
      obtain ⟨b7, hb7, h⟩ := some_of_bind h
      obtain ⟨q6, hq6, h⟩ := some_of_bind h
      refine J_cVr 24 dX0_readNow_21 rfl ykX0_books (Or.inl q499) q501 qs2 (Nat.le_of_ble_eq_true rfl) (cs_rf cs_nil) (by decide) [] hb7 (by decide) rfl rfl rfl (sX0_books hγ l0  q3.2 q6 hq6) ?_
      refine J_ic 25 dX0_readNow_24 rfl (0 : Int32) kic_0 ?_
      obtain ⟨b9, hb9, h⟩ := some_of_bind h
      obtain ⟨q8, hq8, h⟩ := some_of_bind h
      refine J_cVv 28 dX0_readNow_25 rfl ykX4_append (Or.inl q1580) q1581 q1582 (Nat.le_of_ble_eq_true rfl) cs_nil (by decide) [va_rf q6.1, .int (0 : Int32)] hb9 (by decide) rfl rfl rfl (sX4_append hγ v5 q6.1 (0 : Int32) q6.2 q8 hq8) ?_
      refine J_aload_n (i := 0) 0 29 dX0_readNow_28 rfl rfl rfl ?_
      refine J_iload_n (i := 1) 1 30 dX0_readNow_29 rfl rfl rfl ?_
      refine J_iload_n (i := 2) 2 31 dX0_readNow_30 rfl rfl rfl ?_
      obtain ⟨b11, hb11, h⟩ := some_of_bind h
      obtain ⟨q10, hq10, h⟩ := some_of_bind h
      refine J_cVi 34 dX0_readNow_31 rfl ykX0_readIt (Or.inl q736) q738 qs11 (Nat.le_of_ble_eq_true rfl) cs_nil (by decide) [.int l1, .int l2] hb11 (by decide) rfl rfl rfl (sX0_readIt hγ l0 l1 l2 q8 q10 hq10) ?_
      exact J_iret rfl dX0_readNow_34 (retI h)
    · rw [if_pos c4] at h
      refine J_ic 15 dX0_readNow_14 rfl (-1 : Int32) kic_m1 ?_
      exact J_iret rfl dX0_readNow_15 (retI h)
abbrev mX0_read : MP := (cX0_read, "MissCurves", 3, (Option.some FieldType.int), 111, "read", [])
theorem ykX0_read : YK yX0_read mX0_read 2 := ⟨q1575, q128, ⟨by decide, by decide⟩, by decide +kernel, Nat.le_of_ble_eq_true rfl, by decide, rfl, rfl⟩
def X0_read (l0 : Option Nat) (l1 : Int32) (l2 : Int32) (σ : Hp) : Option (Int32 × Hp) :=
  (cT σ l0 0).bind fun b2 =>
  (X0_readNow l0 l1 l2 σ).bind fun q1 =>
  (cT q1.2 l0 0).bind fun b4 =>
  (X0_tell l0 q1.1 q1.2).bind fun q3 =>
  some (q3.1, q3.2)
set_option maxHeartbeats 4000000 in
theorem sX0_read {γ : GP} (hγ : GOK γ) (l0 : Option Nat) (l1 : Int32) (l2 : Int32) (σ : Hp) (q : (Int32 × Hp)) (h : X0_read l0 l1 l2 σ = some q) : Rn γ mX0_read yX0_read [va_rf l0, .int l1, .int l2] (σ, .inr (some (.int q.1)), q.2) := by
  refine J_m hγ ykX0_read rfl [(1, va_rf l0), (1, .int l1), (1, .int l2)] (cats_r (cats_i (cats_i cats_nil))) (Nat.le_of_ble_eq_true rfl) ?_
  show J γ mX0_read _ σ 0 [(0, 1, va_rf l0), (1, 1, .int l1), (2, 1, .int l2)] []
  unfold X0_read at h
  refine J_aload_n (i := 0) 0 1 dX0_read_0 rfl rfl rfl ?_
  refine J_aload_n (i := 0) 0 2 dX0_read_1 rfl rfl rfl ?_
  refine J_iload_n (i := 1) 1 3 dX0_read_2 rfl rfl rfl ?_
  refine J_iload_n (i := 2) 2 4 dX0_read_3 rfl rfl rfl ?_
  obtain ⟨b2, hb2, h⟩ := some_of_bind h
  obtain ⟨q1, hq1, h⟩ := some_of_bind h
  refine J_cVi 7 dX0_read_4 rfl ykX0_readNow (Or.inl q1576) q1578 qs22 (Nat.le_of_ble_eq_true rfl) (cs_rf cs_nil) (by decide) [.int l1, .int l2] hb2 (by decide) rfl rfl rfl (sX0_readNow hγ l0 l1 l2 σ q1 hq1) ?_
  obtain ⟨b4, hb4, h⟩ := some_of_bind h
  obtain ⟨q3, hq3, h⟩ := some_of_bind h
  refine J_cVi 10 dX0_read_7 rfl ykX0_tell (Or.inl q630) q632 qs7 (Nat.le_of_ble_eq_true rfl) cs_nil (by decide) [.int q1.1] hb4 (by decide) rfl rfl rfl (sX0_tell hγ l0 q1.1 q1.2 q3 hq3) ?_
  exact J_iret rfl dX0_read_10 (retI h)
abbrev mX0_replay : MP := (cX0_replay, "MissCurves", 3, (Option.some FieldType.int), 5, "replay", [])
theorem ykX0_replay : YK yX0_replay mX0_replay 2 := ⟨q1845, q128, ⟨by decide, by decide⟩, by decide +kernel, Nat.le_of_ble_eq_true rfl, by decide, rfl, rfl⟩
def X0_replay (l0 : Option Nat) (l1 : Int32) (l2 : Int32) (σ : Hp) : Option (Int32 × Hp) :=
  (X0_isTenant l1 σ).bind fun q1 =>
  if q1.1 = 0 then
    some ((-1 : Int32), q1.2)
  else
    (X0_isSize l2 q1.2).bind fun q3 =>
    if q3.1 = 0 then
      some ((-1 : Int32), q3.2)
    else
      (cT q3.2 l0 0).bind fun b6 =>
      (X0_book l0 l1 q3.2).bind fun q5 =>
      (cT q5.2 l0 0).bind fun b8 =>
      (X0_replayed l0 q5.1 l2 q5.2).bind fun q7 =>
      some (q7.1, q7.2)
set_option maxHeartbeats 4000000 in
theorem sX0_replay {γ : GP} (hγ : GOK γ) (l0 : Option Nat) (l1 : Int32) (l2 : Int32) (σ : Hp) (q : (Int32 × Hp)) (h : X0_replay l0 l1 l2 σ = some q) : Rn γ mX0_replay yX0_replay [va_rf l0, .int l1, .int l2] (σ, .inr (some (.int q.1)), q.2) := by
  refine J_m hγ ykX0_replay rfl [(1, va_rf l0), (1, .int l1), (1, .int l2)] (cats_r (cats_i (cats_i cats_nil))) (Nat.le_of_ble_eq_true rfl) ?_
  show J γ mX0_replay _ σ 0 [(0, 1, va_rf l0), (1, 1, .int l1), (2, 1, .int l2)] []
  unfold X0_replay at h
  refine J_iload_n (i := 1) 1 1 dX0_replay_0 rfl rfl rfl ?_
  obtain ⟨q1, hq1, h⟩ := some_of_bind h
  refine J_cSi 4 dX0_replay_1 rfl ykX0_isTenant (Or.inl q491) q492 (Nat.le_of_ble_eq_true rfl) cs_nil (by decide) [.int l1] rfl rfl (sX0_isTenant hγ l1 σ q1 hq1) ?_
  refine J_if_eq 27 7 dX0_replay_4 (by decide) rfl (fun c2 => ?_) (fun c2 => ?_)
  · rw [if_pos c2] at h
    refine J_ic 28 dX0_replay_27 rfl (-1 : Int32) kic_m1 ?_
    exact J_iret rfl dX0_replay_28 (retI h)
  · rw [if_neg c2] at h
    refine J_iload_n (i := 2) 2 8 dX0_replay_7 rfl rfl rfl ?_
    obtain ⟨q3, hq3, h⟩ := some_of_bind h
    refine J_cSi 11 dX0_replay_8 rfl ykX0_isSize (Or.inl q1639) q1640 (Nat.le_of_ble_eq_true rfl) cs_nil (by decide) [.int l2] rfl rfl (sX0_isSize hγ l2 q1.2 q3 hq3) ?_
    refine J_if_eq 27 14 dX0_replay_11 (by decide) rfl (fun c4 => ?_) (fun c4 => ?_)
    · rw [if_pos c4] at h
      refine J_ic 28 dX0_replay_27 rfl (-1 : Int32) kic_m1 ?_
      exact J_iret rfl dX0_replay_28 (retI h)
    · rw [if_neg c4] at h
      refine J_aload_n (i := 0) 0 15 dX0_replay_14 rfl rfl rfl ?_
      refine J_aload_n (i := 0) 0 16 dX0_replay_15 rfl rfl rfl ?_
      refine J_iload_n (i := 1) 1 17 dX0_replay_16 rfl rfl rfl ?_
      obtain ⟨b6, hb6, h⟩ := some_of_bind h
      obtain ⟨q5, hq5, h⟩ := some_of_bind h
      refine J_cVr 20 dX0_replay_17 rfl ykX0_book (Or.inl q495) q497 qs1 (Nat.le_of_ble_eq_true rfl) (cs_rf cs_nil) (by decide) [.int l1] hb6 (by decide) rfl rfl rfl (sX0_book hγ l0 l1 q3.2 q5 hq5) ?_
      refine J_iload_n (i := 2) 2 21 dX0_replay_20 rfl rfl rfl ?_
      obtain ⟨b8, hb8, h⟩ := some_of_bind h
      obtain ⟨q7, hq7, h⟩ := some_of_bind h
      refine J_cVi 24 dX0_replay_21 rfl ykX0_replayed (Or.inl q1846) q1848 qs32 (Nat.le_of_ble_eq_true rfl) cs_nil (by decide) [va_rf q5.1, .int l2] hb8 (by decide) rfl rfl rfl (sX0_replayed hγ l0 q5.1 l2 q5.2 q7 hq7) ?_
      refine J_goto 28 dX0_replay_24 (by decide) ?_
      exact J_iret rfl dX0_replay_28 (retI h)
abbrev mX22_setNow : MP := (cX22_setNow, "MissCurves$Act", 1, (Option.none : Option FieldType), 1, "setNow", [])
theorem ykX22_setNow : YK yX22_setNow mX22_setNow 0 := ⟨q2108, q169, ⟨by decide, by decide⟩, by decide +kernel, Nat.le_of_ble_eq_true rfl, by decide, rfl, rfl⟩
theorem fk_z_287 : FOK "MissCurves$Act" 3 [22] 7 isR := FOK.one (by decide) rfl (Nat.le_of_ble_eq_true rfl) (Or.inl ⟨_, q1450, Or.inl rfl⟩) rfl
theorem fk_z_288 : FOK "MissCurves$Act" 32 [0] 7 isR := FOK.one (by decide) rfl (Nat.le_of_ble_eq_true rfl) (Or.inr ⟨_, q387⟩) rfl
theorem fk_z_289 : FOK "MissCurves$Act" 36 [5] 0 isR := FOK.one (by decide) rfl (Nat.le_of_ble_eq_true rfl) (Or.inr ⟨_, q350⟩) rfl
theorem fk_z_290 : FOK "MissCurves$Act" 46 [2] 1 isI := FOK.one (by decide) rfl (Nat.le_of_ble_eq_true rfl) (Or.inr ⟨_, q279⟩) rfl
theorem fk_z_291 : FOK "MissCurves$Act" 51 [0] 24 isI := FOK.one (by decide) rfl (Nat.le_of_ble_eq_true rfl) (Or.inr ⟨_, q408⟩) rfl
theorem fk_z_292 : FOK "MissCurves$Act" 54 [0] 25 isI := FOK.one (by decide) rfl (Nat.le_of_ble_eq_true rfl) (Or.inr ⟨_, q410⟩) rfl
theorem pk_z_293 {nm9 : String} : POK "MissCurves$Act" nm9 57 [5] 1 .boolean := POK.one (by decide) rfl (Nat.le_of_ble_eq_true rfl) (Or.inr ⟨_, q358⟩) rfl (by decide +kernel) (Or.inl rfl)
def X22_setNow (l0 : Option Nat) (σ : Hp) : Option Hp :=
  (gR σ l0 [22] 7).bind fun v1 =>
  (gR σ v1 [0] 7).bind fun v2 =>
  (gR σ v2 [5] 0).bind fun v3 =>
  (gR σ l0 [22] 7).bind fun v4 =>
  (cT σ v4 0).bind fun b6 =>
  (X0_books v4  σ).bind fun q5 =>
  (gI q5.2 q5.1 [2] 1).bind fun v7 =>
  (sL q5.2 v3 (0 : Int32) v7.toInt64).bind fun σ8 =>
  (gR σ8 l0 [22] 7).bind fun v9 =>
  (gR σ8 v9 [0] 7).bind fun v10 =>
  (gR σ8 v10 [5] 0).bind fun v11 =>
  (gR σ8 l0 [22] 7).bind fun v12 =>
  (gI σ8 v12 [0] 24).bind fun v13 =>
  (sL σ8 v11 (1 : Int32) v13.toInt64).bind fun σ14 =>
  (gR σ14 l0 [22] 7).bind fun v15 =>
  (gR σ14 v15 [0] 7).bind fun v16 =>
  (gR σ14 v16 [5] 0).bind fun v17 =>
  (gR σ14 l0 [22] 7).bind fun v18 =>
  (gI σ14 v18 [0] 25).bind fun v19 =>
  (sL σ14 v17 (2 : Int32) v19.toInt64).bind fun σ20 =>
  (gR σ20 l0 [22] 7).bind fun v21 =>
  (gR σ20 v21 [0] 7).bind fun v22 =>
  (pZ σ20 v22 [5] 1 (0 : Int32)).bind fun σ23 =>
  some σ23
set_option maxHeartbeats 4000000 in
theorem sX22_setNow {γ : GP} (hγ : GOK γ) (l0 : Option Nat) (σ : Hp) (q : Hp) (h : X22_setNow l0 σ = some q) : Rn γ mX22_setNow yX22_setNow [va_rf l0] (σ, .inr none, q) := by
  refine J_m hγ ykX22_setNow rfl [(1, va_rf l0)] (cats_r cats_nil) (Nat.le_of_ble_eq_true rfl) ?_
  show J γ mX22_setNow _ σ 0 [(0, 1, va_rf l0)] []
  unfold X22_setNow at h
  refine J_aload_n (i := 0) 0 1 dX22_setNow_0 rfl rfl rfl ?_
  obtain ⟨v1, hv1, h⟩ := some_of_bind h
  refine J_gR 4 dX22_setNow_1 rfl fk_z_287 hv1 ?_
  obtain ⟨v2, hv2, h⟩ := some_of_bind h
  refine J_gR 7 dX22_setNow_4 rfl fk_z_288 hv2 ?_
  obtain ⟨v3, hv3, h⟩ := some_of_bind h
  refine J_gR 10 dX22_setNow_7 rfl fk_z_289 hv3 ?_
  refine J_ic 11 dX22_setNow_10 rfl (0 : Int32) kic_0 ?_
  refine J_aload_n (i := 0) 0 12 dX22_setNow_11 rfl rfl rfl ?_
  obtain ⟨v4, hv4, h⟩ := some_of_bind h
  refine J_gR 15 dX22_setNow_12 rfl fk_z_287 hv4 ?_
  obtain ⟨b6, hb6, h⟩ := some_of_bind h
  obtain ⟨q5, hq5, h⟩ := some_of_bind h
  refine J_cVr 18 dX22_setNow_15 rfl ykX0_books (Or.inr ⟨_, q2109⟩) q501 qs2 (Nat.le_of_ble_eq_true rfl) (cs_int (cs_rf cs_nil)) (by decide) [] hb6 (by decide) rfl rfl rfl (sX0_books hγ v4  σ q5 hq5) ?_
  obtain ⟨v7, hv7, h⟩ := some_of_bind h
  refine J_gI 21 dX22_setNow_18 rfl fk_z_290 hv7 ?_
  refine J_i2l 22 dX22_setNow_21 rfl ?_
  obtain ⟨σ8, hσ8, h⟩ := some_of_bind h
  refine J_last 23 dX22_setNow_22 rfl hσ8 ?_
  refine J_aload_n (i := 0) 0 24 dX22_setNow_23 rfl rfl rfl ?_
  obtain ⟨v9, hv9, h⟩ := some_of_bind h
  refine J_gR 27 dX22_setNow_24 rfl fk_z_287 hv9 ?_
  obtain ⟨v10, hv10, h⟩ := some_of_bind h
  refine J_gR 30 dX22_setNow_27 rfl fk_z_288 hv10 ?_
  obtain ⟨v11, hv11, h⟩ := some_of_bind h
  refine J_gR 33 dX22_setNow_30 rfl fk_z_289 hv11 ?_
  refine J_ic 34 dX22_setNow_33 rfl (1 : Int32) kic_1 ?_
  refine J_aload_n (i := 0) 0 35 dX22_setNow_34 rfl rfl rfl ?_
  obtain ⟨v12, hv12, h⟩ := some_of_bind h
  refine J_gR 38 dX22_setNow_35 rfl fk_z_287 hv12 ?_
  obtain ⟨v13, hv13, h⟩ := some_of_bind h
  refine J_gI 41 dX22_setNow_38 rfl fk_z_291 hv13 ?_
  refine J_i2l 42 dX22_setNow_41 rfl ?_
  obtain ⟨σ14, hσ14, h⟩ := some_of_bind h
  refine J_last 43 dX22_setNow_42 rfl hσ14 ?_
  refine J_aload_n (i := 0) 0 44 dX22_setNow_43 rfl rfl rfl ?_
  obtain ⟨v15, hv15, h⟩ := some_of_bind h
  refine J_gR 47 dX22_setNow_44 rfl fk_z_287 hv15 ?_
  obtain ⟨v16, hv16, h⟩ := some_of_bind h
  refine J_gR 50 dX22_setNow_47 rfl fk_z_288 hv16 ?_
  obtain ⟨v17, hv17, h⟩ := some_of_bind h
  refine J_gR 53 dX22_setNow_50 rfl fk_z_289 hv17 ?_
  refine J_ic 54 dX22_setNow_53 rfl (2 : Int32) kic_2 ?_
  refine J_aload_n (i := 0) 0 55 dX22_setNow_54 rfl rfl rfl ?_
  obtain ⟨v18, hv18, h⟩ := some_of_bind h
  refine J_gR 58 dX22_setNow_55 rfl fk_z_287 hv18 ?_
  obtain ⟨v19, hv19, h⟩ := some_of_bind h
  refine J_gI 61 dX22_setNow_58 rfl fk_z_292 hv19 ?_
  refine J_i2l 62 dX22_setNow_61 rfl ?_
  obtain ⟨σ20, hσ20, h⟩ := some_of_bind h
  refine J_last 63 dX22_setNow_62 rfl hσ20 ?_
  refine J_aload_n (i := 0) 0 64 dX22_setNow_63 rfl rfl rfl ?_
  obtain ⟨v21, hv21, h⟩ := some_of_bind h
  refine J_gR 67 dX22_setNow_64 rfl fk_z_287 hv21 ?_
  obtain ⟨v22, hv22, h⟩ := some_of_bind h
  refine J_gR 70 dX22_setNow_67 rfl fk_z_288 hv22 ?_
  refine J_ic 71 dX22_setNow_70 rfl (0 : Int32) kic_0 ?_
  obtain ⟨σ23, hσ23, h⟩ := some_of_bind h
  refine J_pZ 74 dX22_setNow_71 rfl pk_z_293 hσ23 ?_
  exact J_vret rfl dX22_setNow_74 (retV h)
abbrev mX22_reckoned : MP := (cX22_reckoned, "MissCurves$Act", 4, (Option.some FieldType.int), 64, "reckoned", [])
theorem ykX22_reckoned : YK yX22_reckoned mX22_reckoned 1 := ⟨q2118, q169, ⟨by decide, by decide⟩, by decide +kernel, Nat.le_of_ble_eq_true rfl, by decide, rfl, rfl⟩
theorem fk_z_294 : FOK "MissCurves$Act" 61 [22] 6 isI := FOK.one (by decide) rfl (Nat.le_of_ble_eq_true rfl) (Or.inl ⟨_, q1449, Or.inl rfl⟩) rfl
theorem fk_z_295 : FOK "MissCurves$Act" 57 [5] 1 isI := FOK.one (by decide) rfl (Nat.le_of_ble_eq_true rfl) (Or.inr ⟨_, q358⟩) rfl
theorem pk_z_296 {nm9 : String} : POK "MissCurves$Act" nm9 61 [22] 6 .boolean := POK.one (by decide) rfl (Nat.le_of_ble_eq_true rfl) (Or.inl ⟨_, q1449, Or.inl rfl⟩) rfl (by decide +kernel) (Or.inl rfl)
def X22_reckoned (l0 : Option Nat) (l1 : Option Nat) (σ : Hp) : Option (Int32 × Hp) :=
  (gI σ l0 [22] 6).bind fun v1 =>
  if v1 = 0 then
    if l1 = none then
      some ((-1 : Int32), σ)
    else
      (gR σ l0 [22] 7).bind fun v4 =>
      (gR σ v4 [0] 7).bind fun v5 =>
      (pZ σ v5 [5] 1 (0 : Int32)).bind fun σ6 =>
      (gR σ6 l0 [22] 7).bind fun v7 =>
      (gR σ6 v7 [0] 7).bind fun v8 =>
      (vSum 60 l1 v8 σ6).bind fun q9 =>
      (gR q9.2 l0 [22] 7).bind fun v10 =>
      (gR q9.2 v10 [0] 7).bind fun v11 =>
      (gI q9.2 v11 [5] 1).bind fun v12 =>
      (pZ q9.2 l0 [22] 6 v12).bind fun σ13 =>
      (gI σ13 l0 [22] 6).bind fun v14 =>
      if v14 = 0 then
        some (q9.1.toInt32, σ13)
      else
        some ((-1 : Int32), σ13)
  else
    some ((-1 : Int32), σ)
set_option maxHeartbeats 4000000 in
theorem sX22_reckoned {γ : GP} (hγ : GOK γ) (l0 : Option Nat) (l1 : Option Nat) (σ : Hp) (q : (Int32 × Hp)) (h : X22_reckoned l0 l1 σ = some q) : Rn γ mX22_reckoned yX22_reckoned [va_rf l0, va_rf l1] (σ, .inr (some (.int q.1)), q.2) := by
  refine J_m hγ ykX22_reckoned rfl [(1, va_rf l0), (1, va_rf l1)] (cats_r (cats_r cats_nil)) (Nat.le_of_ble_eq_true rfl) ?_
  show J γ mX22_reckoned _ σ 0 [(0, 1, va_rf l0), (1, 1, va_rf l1)] []
  unfold X22_reckoned at h
  refine J_aload_n (i := 0) 0 1 dX22_reckoned_0 rfl rfl rfl ?_
  obtain ⟨v1, hv1, h⟩ := some_of_bind h
  refine J_gI 4 dX22_reckoned_1 rfl fk_z_294 hv1 ?_
  refine J_if_ne 11 7 dX22_reckoned_4 (by decide) rfl (fun c2 => ?_) (fun c2 => ?_)
  · rw [if_neg c2] at h
    refine J_ic 12 dX22_reckoned_11 rfl (-1 : Int32) kic_m1 ?_
    exact J_iret rfl dX22_reckoned_12 (retI h)
  · rw [if_pos c2] at h
    refine J_aload_n (i := 1) 1 8 dX22_reckoned_7 rfl rfl rfl ?_
    refine J_ifnonnull 13 11 dX22_reckoned_8 (by decide) rfl (fun c3 => ?_) (fun c3 => ?_)
    · rw [if_neg c3] at h
      refine J_aload_n (i := 0) 0 14 dX22_reckoned_13 rfl rfl rfl ?_
      obtain ⟨v4, hv4, h⟩ := some_of_bind h
      refine J_gR 17 dX22_reckoned_14 rfl fk_z_287 hv4 ?_
      obtain ⟨v5, hv5, h⟩ := some_of_bind h
      refine J_gR 20 dX22_reckoned_17 rfl fk_z_288 hv5 ?_
      refine J_ic 21 dX22_reckoned_20 rfl (0 : Int32) kic_0 ?_
      obtain ⟨σ6, hσ6, h⟩ := some_of_bind h
      refine J_pZ 24 dX22_reckoned_21 rfl pk_z_293 hσ6 ?_
      refine J_aload_n (i := 1) 1 25 dX22_reckoned_24 rfl rfl rfl ?_
      refine J_aload_n (i := 0) 0 26 dX22_reckoned_25 rfl rfl rfl ?_
      obtain ⟨v7, hv7, h⟩ := some_of_bind h
      refine J_gR 29 dX22_reckoned_26 rfl fk_z_287 hv7 ?_
      obtain ⟨v8, hv8, h⟩ := some_of_bind h
      refine J_gR 32 dX22_reckoned_29 rfl fk_z_288 hv8 ?_
      obtain ⟨q9, hq9, h⟩ := some_of_bind h
      refine J_cUl (na := 1) 35 dX22_reckoned_32 rfl q2119 q577 q576 ⟨by decide, by decide, by decide +kernel⟩ (show (3 + 60) + 1 ≤ 64 by omega) cs_nil (by decide) [va_rf v8] rfl rfl (svSum hγ 60 l1 v8 σ6 q9 hq9) ?_
      refine J_lstore_n (i := 2) 36 [(2, 2, .long q9.1), (0, 1, va_rf l0), (1, 1, va_rf l1)] dX22_reckoned_35 rfl rfl (Nat.le_of_ble_eq_true rfl) rfl ?_
      refine J_aload_n (i := 0) 1 37 dX22_reckoned_36 rfl rfl rfl ?_
      refine J_aload_n (i := 0) 1 38 dX22_reckoned_37 rfl rfl rfl ?_
      obtain ⟨v10, hv10, h⟩ := some_of_bind h
      refine J_gR 41 dX22_reckoned_38 rfl fk_z_287 hv10 ?_
      obtain ⟨v11, hv11, h⟩ := some_of_bind h
      refine J_gR 44 dX22_reckoned_41 rfl fk_z_288 hv11 ?_
      obtain ⟨v12, hv12, h⟩ := some_of_bind h
      refine J_gI 47 dX22_reckoned_44 rfl fk_z_295 hv12 ?_
      obtain ⟨σ13, hσ13, h⟩ := some_of_bind h
      refine J_pZ 50 dX22_reckoned_47 rfl pk_z_296 hσ13 ?_
      refine J_aload_n (i := 0) 1 51 dX22_reckoned_50 rfl rfl rfl ?_
      obtain ⟨v14, hv14, h⟩ := some_of_bind h
      refine J_gI 54 dX22_reckoned_51 rfl fk_z_294 hv14 ?_
      refine J_if_eq 61 57 dX22_reckoned_54 (by decide) rfl (fun c15 => ?_) (fun c15 => ?_)
      · rw [if_pos c15] at h
        refine J_lload_n (i := 2) 0 62 dX22_reckoned_61 rfl rfl rfl ?_
        refine J_l2i 63 dX22_reckoned_62 rfl ?_
        exact J_iret rfl dX22_reckoned_63 (retI h)
      · rw [if_neg c15] at h
        refine J_ic 58 dX22_reckoned_57 rfl (-1 : Int32) kic_m1 ?_
        refine J_goto 63 dX22_reckoned_58 (by decide) ?_
        exact J_iret rfl dX22_reckoned_63 (retI h)
    · rw [if_pos c3] at h
      refine J_ic 12 dX22_reckoned_11 rfl (-1 : Int32) kic_m1 ?_
      exact J_iret rfl dX22_reckoned_12 (retI h)
abbrev mX22_does : MP := (cX22_does, "MissCurves$Act", 5, (Option.some FieldType.int), 111, "does", [])
theorem ykX22_does : YK yX22_does mX22_does 0 := ⟨q2114, q169, ⟨by decide, by decide⟩, by decide +kernel, Nat.le_of_ble_eq_true rfl, by decide, rfl, rfl⟩
theorem pk_z_297 {nm9 : String} : POK "MissCurves$Act" nm9 54 [0] 25 .int := POK.one (by decide) rfl (Nat.le_of_ble_eq_true rfl) (Or.inr ⟨_, q410⟩) rfl (by decide +kernel) (Or.inl rfl)
theorem fk_z_298 : FOK "MissCurves$Act" 22 [22] 1 isR := FOK.one (by decide) rfl (Nat.le_of_ble_eq_true rfl) (Or.inl ⟨_, q1441, Or.inl rfl⟩) rfl
theorem fk_z_299 : FOK "MissCurves$Act" 26 [22] 2 isR := FOK.one (by decide) rfl (Nat.le_of_ble_eq_true rfl) (Or.inl ⟨_, q1442, Or.inl rfl⟩) rfl
theorem fk_z_300 : FOK "MissCurves$Act" 29 [22] 3 isR := FOK.one (by decide) rfl (Nat.le_of_ble_eq_true rfl) (Or.inl ⟨_, q1443, Or.inl rfl⟩) rfl
theorem fk_z_301 : FOK "MissCurves$Act" 19 [22] 0 isI := FOK.one (by decide) rfl (Nat.le_of_ble_eq_true rfl) (Or.inl ⟨_, q1440, Or.inl rfl⟩) rfl
def X22_does_c123  (l4 : Int32) (s0 : Option Nat) (s1 : Int32) (σ : Hp) : Option (Int32 × Hp) :=
  (pI σ s0 [0] 25 s1).bind fun σ1 =>
  some (l4, σ1)
set_option maxHeartbeats 4000000 in
theorem jX22_does_c123 {γ : GP} {σ0 : Hp} {q : (Int32 × Hp)} (hγ : GOK γ) (l4 : Int32)  (s0 : Option Nat) (s1 : Int32) (σ : Hp) (h : X22_does_c123 l4 s0 s1 σ = some q) : J γ mX22_does (σ0, .inr (some (.int q.1)), q.2) σ 123 [(4, 1, .int l4)] [.int s1, va_rf s0] := by
  unfold X22_does_c123 at h
  obtain ⟨σ1, hσ1, h⟩ := some_of_bind h
  refine J_pI 126 dX22_does_123 rfl pk_z_297 hσ1 ?_
  refine J_iload (i := 4) 0 128 dX22_does_126 rfl rfl ?_
  exact J_iret rfl dX22_does_128 (retI h)
def X22_does_c100  (l0 : Option Nat) (s0 : Int32) (σ : Hp) : Option (Int32 × Hp) :=
  (gR σ l0 [22] 7).bind fun v1 =>
  if 0 ≤ s0 then
    X22_does_c123  s0 v1 s0 σ
  else
    (gR σ l0 [22] 7).bind fun v3 =>
    (gI σ v3 [0] 25).bind fun v4 =>
    X22_does_c123  s0 v1 v4 σ
set_option maxHeartbeats 4000000 in
theorem jX22_does_c100 {γ : GP} {σ0 : Hp} {q : (Int32 × Hp)} (hγ : GOK γ) (l0 : Option Nat)  (s0 : Int32) (σ : Hp) (h : X22_does_c100 l0 s0 σ = some q) : J γ mX22_does (σ0, .inr (some (.int q.1)), q.2) σ 100 [(0, 1, va_rf l0)] [.int s0] := by
  unfold X22_does_c100 at h
  refine J_istore (i := 4) 102 [(4, 1, .int s0), (0, 1, va_rf l0)] dX22_does_100 rfl (Nat.le_of_ble_eq_true rfl) rfl ?_
  refine J_aload_n (i := 0) 1 103 dX22_does_102 rfl rfl rfl ?_
  obtain ⟨v1, hv1, h⟩ := some_of_bind h
  refine J_gR 106 dX22_does_103 rfl fk_z_287 hv1 ?_
  refine J_iload (i := 4) 0 108 dX22_does_106 rfl rfl ?_
  refine J_if_ge 121 111 dX22_does_108 (by decide) rfl (fun c2 => ?_) (fun c2 => ?_)
  · rw [if_pos c2] at h
    refine J_iload (i := 4) 0 123 dX22_does_121 rfl rfl ?_
    refine J.pick [0] rfl ?_
    exact jX22_does_c123 hγ s0 v1 s0 σ h
  · rw [if_neg c2] at h
    refine J_aload_n (i := 0) 1 112 dX22_does_111 rfl rfl rfl ?_
    obtain ⟨v3, hv3, h⟩ := some_of_bind h
    refine J_gR 115 dX22_does_112 rfl fk_z_287 hv3 ?_
    obtain ⟨v4, hv4, h⟩ := some_of_bind h
    refine J_gI 118 dX22_does_115 rfl fk_z_292 hv4 ?_
    refine J_goto 123 dX22_does_118 (by decide) ?_
    refine J.pick [0] rfl ?_
    exact jX22_does_c123 hγ s0 v1 v4 σ h
def X22_does (l0 : Option Nat) (σ : Hp) : Option (Int32 × Hp) :=
  (gR σ l0 [22] 1).bind fun v1 =>
  (cT σ l0 22).bind fun b3 =>
  (X22_reckoned l0 v1 σ).bind fun q2 =>
  (gR q2.2 l0 [22] 2).bind fun v4 =>
  (cT q2.2 l0 22).bind fun b6 =>
  (X22_reckoned l0 v4 q2.2).bind fun q5 =>
  (gR q5.2 l0 [22] 3).bind fun v7 =>
  (cT q5.2 l0 22).bind fun b9 =>
  (X22_reckoned l0 v7 q5.2).bind fun q8 =>
  (gI q8.2 l0 [22] 6).bind fun v10 =>
  if v10 = 0 then
    (gI q8.2 l0 [22] 0).bind fun v12 =>
    if v12 = (3 : Int32) then
      (gR q8.2 l0 [22] 7).bind fun v27 =>
      (cT q8.2 v27 0).bind fun b29 =>
      (X0_passNow v27  q8.2).bind fun q28 =>
      some (q28.1, q28.2)
    else
      (gI q8.2 l0 [22] 0).bind fun v14 =>
      if v14 = (2 : Int32) then
        (gR q8.2 l0 [22] 7).bind fun v24 =>
        (cT q8.2 v24 0).bind fun b26 =>
        (X0_dropNow v24 q8.1 q2.1 q8.2).bind fun q25 =>
        some (q25.1, q25.2)
      else
        (gI q8.2 l0 [22] 0).bind fun v16 =>
        if v16 = 0 then
          (gR q8.2 l0 [22] 7).bind fun v21 =>
          (cT q8.2 v21 0).bind fun b23 =>
          (X0_readNow v21 q8.1 q2.1 q8.2).bind fun q22 =>
          X22_does_c100  l0 q22.1 q22.2
        else
          (gR q8.2 l0 [22] 7).bind fun v18 =>
          (cT q8.2 v18 0).bind fun b20 =>
          (X0_loopNow v18 q8.1 q2.1 q5.1 q8.2).bind fun q19 =>
          X22_does_c100  l0 q19.1 q19.2
  else
    some ((-3 : Int32), q8.2)
set_option maxHeartbeats 4000000 in
theorem sX22_does {γ : GP} (hγ : GOK γ) (l0 : Option Nat) (σ : Hp) (q : (Int32 × Hp)) (h : X22_does l0 σ = some q) : Rn γ mX22_does yX22_does [va_rf l0] (σ, .inr (some (.int q.1)), q.2) := by
  refine J_m hγ ykX22_does rfl [(1, va_rf l0)] (cats_r cats_nil) (Nat.le_of_ble_eq_true rfl) ?_
  show J γ mX22_does _ σ 0 [(0, 1, va_rf l0)] []
  unfold X22_does at h
  refine J_aload_n (i := 0) 0 1 dX22_does_0 rfl rfl rfl ?_
  refine J_aload_n (i := 0) 0 2 dX22_does_1 rfl rfl rfl ?_
  obtain ⟨v1, hv1, h⟩ := some_of_bind h
  refine J_gR 5 dX22_does_2 rfl fk_z_298 hv1 ?_
  obtain ⟨b3, hb3, h⟩ := some_of_bind h
  obtain ⟨q2, hq2, h⟩ := some_of_bind h
  refine J_cVi 8 dX22_does_5 rfl ykX22_reckoned (Or.inl q2115) q2117 qs38 (Nat.le_of_ble_eq_true rfl) cs_nil (by decide) [va_rf v1] hb3 (by decide) rfl rfl rfl (sX22_reckoned hγ l0 v1 σ q2 hq2) ?_
  refine J_istore_n (i := 1) 9 [(1, 1, .int q2.1), (0, 1, va_rf l0)] dX22_does_8 rfl rfl (Nat.le_of_ble_eq_true rfl) rfl ?_
  refine J_aload_n (i := 0) 1 10 dX22_does_9 rfl rfl rfl ?_
  refine J_aload_n (i := 0) 1 11 dX22_does_10 rfl rfl rfl ?_
  obtain ⟨v4, hv4, h⟩ := some_of_bind h
  refine J_gR 14 dX22_does_11 rfl fk_z_299 hv4 ?_
  obtain ⟨b6, hb6, h⟩ := some_of_bind h
  obtain ⟨q5, hq5, h⟩ := some_of_bind h
  refine J_cVi 17 dX22_does_14 rfl ykX22_reckoned (Or.inl q2115) q2117 qs38 (Nat.le_of_ble_eq_true rfl) cs_nil (by decide) [va_rf v4] hb6 (by decide) rfl rfl rfl (sX22_reckoned hγ l0 v4 q2.2 q5 hq5) ?_
  refine J_istore_n (i := 2) 18 [(2, 1, .int q5.1), (1, 1, .int q2.1), (0, 1, va_rf l0)] dX22_does_17 rfl rfl (Nat.le_of_ble_eq_true rfl) rfl ?_
  refine J_aload_n (i := 0) 2 19 dX22_does_18 rfl rfl rfl ?_
  refine J_aload_n (i := 0) 2 20 dX22_does_19 rfl rfl rfl ?_
  obtain ⟨v7, hv7, h⟩ := some_of_bind h
  refine J_gR 23 dX22_does_20 rfl fk_z_300 hv7 ?_
  obtain ⟨b9, hb9, h⟩ := some_of_bind h
  obtain ⟨q8, hq8, h⟩ := some_of_bind h
  refine J_cVi 26 dX22_does_23 rfl ykX22_reckoned (Or.inl q2115) q2117 qs38 (Nat.le_of_ble_eq_true rfl) cs_nil (by decide) [va_rf v7] hb9 (by decide) rfl rfl rfl (sX22_reckoned hγ l0 v7 q5.2 q8 hq8) ?_
  refine J_istore_n (i := 3) 27 [(3, 1, .int q8.1), (2, 1, .int q5.1), (1, 1, .int q2.1), (0, 1, va_rf l0)] dX22_does_26 rfl rfl (Nat.le_of_ble_eq_true rfl) rfl ?_
  refine J_aload_n (i := 0) 3 28 dX22_does_27 rfl rfl rfl ?_
  obtain ⟨v10, hv10, h⟩ := some_of_bind h
  refine J_gI 31 dX22_does_28 rfl fk_z_294 hv10 ?_
  refine J_if_eq 37 34 dX22_does_31 (by decide) rfl (fun c11 => ?_) (fun c11 => ?_)
  · rw [if_pos c11] at h
    refine J_aload_n (i := 0) 3 38 dX22_does_37 rfl rfl rfl ?_
    obtain ⟨v12, hv12, h⟩ := some_of_bind h
    refine J_gI 41 dX22_does_38 rfl fk_z_301 hv12 ?_
    refine J_ic 42 dX22_does_41 rfl (3 : Int32) kic_3 ?_
    refine J_icmp_ne 53 45 dX22_does_42 (by decide) rfl (fun c13 => ?_) (fun c13 => ?_)
    · rw [if_neg c13] at h
      refine J_aload_n (i := 0) 3 54 dX22_does_53 rfl rfl rfl ?_
      obtain ⟨v14, hv14, h⟩ := some_of_bind h
      refine J_gI 57 dX22_does_54 rfl fk_z_301 hv14 ?_
      refine J_ic 58 dX22_does_57 rfl (2 : Int32) kic_2 ?_
      refine J_icmp_ne 71 61 dX22_does_58 (by decide) rfl (fun c15 => ?_) (fun c15 => ?_)
      · rw [if_neg c15] at h
        refine J_aload_n (i := 0) 3 72 dX22_does_71 rfl rfl rfl ?_
        obtain ⟨v16, hv16, h⟩ := some_of_bind h
        refine J_gI 75 dX22_does_72 rfl fk_z_301 hv16 ?_
        refine J_if_ne 90 78 dX22_does_75 (by decide) rfl (fun c17 => ?_) (fun c17 => ?_)
        · rw [if_neg c17] at h
          refine J_aload_n (i := 0) 3 91 dX22_does_90 rfl rfl rfl ?_
          obtain ⟨v18, hv18, h⟩ := some_of_bind h
          refine J_gR 94 dX22_does_91 rfl fk_z_287 hv18 ?_
          refine J_iload_n (i := 3) 0 95 dX22_does_94 rfl rfl rfl ?_
          refine J_iload_n (i := 1) 2 96 dX22_does_95 rfl rfl rfl ?_
          refine J_iload_n (i := 2) 1 97 dX22_does_96 rfl rfl rfl ?_
          obtain ⟨b20, hb20, h⟩ := some_of_bind h
          obtain ⟨q19, hq19, h⟩ := some_of_bind h
          refine J_cVi 100 dX22_does_97 rfl ykX0_loopNow (Or.inr ⟨_, q2123⟩) q1599 qs23 (Nat.le_of_ble_eq_true rfl) cs_nil (by decide) [.int q8.1, .int q2.1, .int q5.1] hb20 (by decide) rfl rfl rfl (sX0_loopNow hγ v18 q8.1 q2.1 q5.1 q8.2 q19 hq19) ?_
          refine J.pick [3] rfl ?_
          exact jX22_does_c100 hγ l0 q19.1 q19.2 h
        · rw [if_pos c17] at h
          refine J_aload_n (i := 0) 3 79 dX22_does_78 rfl rfl rfl ?_
          obtain ⟨v21, hv21, h⟩ := some_of_bind h
          refine J_gR 82 dX22_does_79 rfl fk_z_287 hv21 ?_
          refine J_iload_n (i := 3) 0 83 dX22_does_82 rfl rfl rfl ?_
          refine J_iload_n (i := 1) 2 84 dX22_does_83 rfl rfl rfl ?_
          obtain ⟨b23, hb23, h⟩ := some_of_bind h
          obtain ⟨q22, hq22, h⟩ := some_of_bind h
          refine J_cVi 87 dX22_does_84 rfl ykX0_readNow (Or.inr ⟨_, q2122⟩) q1578 qs22 (Nat.le_of_ble_eq_true rfl) cs_nil (by decide) [.int q8.1, .int q2.1] hb23 (by decide) rfl rfl rfl (sX0_readNow hγ v21 q8.1 q2.1 q8.2 q22 hq22) ?_
          refine J_goto 100 dX22_does_87 (by decide) ?_
          refine J.pick [3] rfl ?_
          exact jX22_does_c100 hγ l0 q22.1 q22.2 h
      · rw [if_pos c15] at h
        refine J_aload_n (i := 0) 3 62 dX22_does_61 rfl rfl rfl ?_
        obtain ⟨v24, hv24, h⟩ := some_of_bind h
        refine J_gR 65 dX22_does_62 rfl fk_z_287 hv24 ?_
        refine J_iload_n (i := 3) 0 66 dX22_does_65 rfl rfl rfl ?_
        refine J_iload_n (i := 1) 2 67 dX22_does_66 rfl rfl rfl ?_
        obtain ⟨b26, hb26, h⟩ := some_of_bind h
        obtain ⟨q25, hq25, h⟩ := some_of_bind h
        refine J_cVi 70 dX22_does_67 rfl ykX0_dropNow (Or.inr ⟨_, q2121⟩) q1607 qs24 (Nat.le_of_ble_eq_true rfl) cs_nil (by decide) [.int q8.1, .int q2.1] hb26 (by decide) rfl rfl rfl (sX0_dropNow hγ v24 q8.1 q2.1 q8.2 q25 hq25) ?_
        exact J_iret rfl dX22_does_70 (retI h)
    · rw [if_pos c13] at h
      refine J_aload_n (i := 0) 3 46 dX22_does_45 rfl rfl rfl ?_
      obtain ⟨v27, hv27, h⟩ := some_of_bind h
      refine J_gR 49 dX22_does_46 rfl fk_z_287 hv27 ?_
      obtain ⟨b29, hb29, h⟩ := some_of_bind h
      obtain ⟨q28, hq28, h⟩ := some_of_bind h
      refine J_cVi 52 dX22_does_49 rfl ykX0_passNow (Or.inr ⟨_, q2120⟩) q1619 qs25 (Nat.le_of_ble_eq_true rfl) cs_nil (by decide) [] hb29 (by decide) rfl rfl rfl (sX0_passNow hγ v27  q8.2 q28 hq28) ?_
      exact J_iret rfl dX22_does_52 (retI h)
  · rw [if_neg c11] at h
    refine J_bipush 36 dX22_does_34 rfl (-3 : Int32) kbp_m3 ?_
    exact J_iret rfl dX22_does_36 (retI h)
abbrev mX22_run : MP := (cX22_run, "MissCurves$Act", 1, (Option.some FieldType.int), 112, "run", [])
theorem ykX22_run : YK yX22_run mX22_run 0 := ⟨q2104, q169, ⟨by decide, by decide⟩, by decide +kernel, Nat.le_of_ble_eq_true rfl, by decide, rfl, rfl⟩
theorem pk_z_302 {nm9 : String} : POK "MissCurves$Act" nm9 51 [0] 24 .int := POK.one (by decide) rfl (Nat.le_of_ble_eq_true rfl) (Or.inr ⟨_, q408⟩) rfl (by decide +kernel) (Or.inl rfl)
theorem fk_z_303 : FOK "MissCurves$Act" 92 [22] 4 isR := FOK.one (by decide) rfl (Nat.le_of_ble_eq_true rfl) (Or.inl ⟨_, q1444, Or.inl rfl⟩) rfl
def X22_run_c43  (l0 : Option Nat)  (σ : Hp) : Option (Int32 × Hp) :=
  (pZ σ l0 [22] 6 (0 : Int32)).bind fun σ1 =>
  (cT σ1 l0 22).bind fun b3 =>
  (X22_does l0  σ1).bind fun q2 =>
  if 0 ≤ q2.1 then
    (gR q2.2 l0 [22] 7).bind fun v5 =>
    (gI q2.2 v5 [0] 24).bind fun v6 =>
    (pI q2.2 v5 [0] 24 (v6 + (1 : Int32))).bind fun σ7 =>
    some ((0 : Int32), σ7)
  else
    some ((-3 : Int32), q2.2)
set_option maxHeartbeats 4000000 in
theorem jX22_run_c43 {γ : GP} {σ0 : Hp} {q : (Int32 × Hp)} (hγ : GOK γ) (l0 : Option Nat)   (σ : Hp) (h : X22_run_c43 l0 σ = some q) : J γ mX22_run (σ0, .inr (some (.int q.1)), q.2) σ 43 [(0, 1, va_rf l0)] [] := by
  unfold X22_run_c43 at h
  refine J_aload_n (i := 0) 0 44 dX22_run_43 rfl rfl rfl ?_
  refine J_ic 45 dX22_run_44 rfl (0 : Int32) kic_0 ?_
  obtain ⟨σ1, hσ1, h⟩ := some_of_bind h
  refine J_pZ 48 dX22_run_45 rfl pk_z_296 hσ1 ?_
  refine J_aload_n (i := 0) 0 49 dX22_run_48 rfl rfl rfl ?_
  obtain ⟨b3, hb3, h⟩ := some_of_bind h
  obtain ⟨q2, hq2, h⟩ := some_of_bind h
  refine J_cVi 52 dX22_run_49 rfl ykX22_does (Or.inl q2111) q2113 qs37 (Nat.le_of_ble_eq_true rfl) cs_nil (by decide) [] hb3 (by decide) rfl rfl rfl (sX22_does hγ l0  σ1 q2 hq2) ?_
  refine J_if_ge 58 55 dX22_run_52 (by decide) rfl (fun c4 => ?_) (fun c4 => ?_)
  · rw [if_pos c4] at h
    refine J_aload_n (i := 0) 0 59 dX22_run_58 rfl rfl rfl ?_
    obtain ⟨v5, hv5, h⟩ := some_of_bind h
    refine J_gR 62 dX22_run_59 rfl fk_z_287 hv5 ?_
    refine J_dupr 63 dX22_run_62 rfl ?_
    obtain ⟨v6, hv6, h⟩ := some_of_bind h
    refine J_gI 66 dX22_run_63 rfl fk_z_291 hv6 ?_
    refine J_ic 67 dX22_run_66 rfl (1 : Int32) kic_1 ?_
    refine J_iadd 68 dX22_run_67 rfl ?_
    obtain ⟨σ7, hσ7, h⟩ := some_of_bind h
    refine J_pI 71 dX22_run_68 rfl pk_z_302 hσ7 ?_
    refine J_ic 72 dX22_run_71 rfl (0 : Int32) kic_0 ?_
    exact J_iret rfl dX22_run_72 (retI h)
  · rw [if_neg c4] at h
    refine J_bipush 57 dX22_run_55 rfl (-3 : Int32) kbp_m3 ?_
    exact J_iret rfl dX22_run_57 (retI h)
def X22_run (l0 : Option Nat) (σ : Hp) : Option (Int32 × Hp) :=
  (cT σ l0 22).bind fun b2 =>
  (X22_setNow l0  σ).bind fun q1 =>
  (gR q1 l0 [22] 4).bind fun v3 =>
  if v3 = none then
    X22_run_c43  l0  q1
  else
    (gR q1 l0 [22] 4).bind fun v5 =>
    (gR q1 l0 [22] 7).bind fun v6 =>
    (gR q1 v6 [0] 7).bind fun v7 =>
    (vTest 40 v5 v7 q1).bind fun q8 =>
    if q8.1 = 0 then
      some ((0 : Int32), q8.2)
    else
      (gR q8.2 l0 [22] 7).bind fun v10 =>
      (gR q8.2 v10 [0] 7).bind fun v11 =>
      (gI q8.2 v11 [5] 1).bind fun v12 =>
      if v12 = 0 then
        X22_run_c43  l0  q8.2
      else
        some ((0 : Int32), q8.2)
set_option maxHeartbeats 4000000 in
theorem sX22_run {γ : GP} (hγ : GOK γ) (l0 : Option Nat) (σ : Hp) (q : (Int32 × Hp)) (h : X22_run l0 σ = some q) : Rn γ mX22_run yX22_run [va_rf l0] (σ, .inr (some (.int q.1)), q.2) := by
  refine J_m hγ ykX22_run rfl [(1, va_rf l0)] (cats_r cats_nil) (Nat.le_of_ble_eq_true rfl) ?_
  show J γ mX22_run _ σ 0 [(0, 1, va_rf l0)] []
  unfold X22_run at h
  refine J_aload_n (i := 0) 0 1 dX22_run_0 rfl rfl rfl ?_
  obtain ⟨b2, hb2, h⟩ := some_of_bind h
  obtain ⟨q1, hq1, h⟩ := some_of_bind h
  refine J_cVv 4 dX22_run_1 rfl ykX22_setNow (Or.inl q2105) q2107 qs36 (Nat.le_of_ble_eq_true rfl) cs_nil (by decide) [] hb2 (by decide) rfl rfl rfl (sX22_setNow hγ l0  σ q1 hq1) ?_
  refine J_aload_n (i := 0) 0 5 dX22_run_4 rfl rfl rfl ?_
  obtain ⟨v3, hv3, h⟩ := some_of_bind h
  refine J_gR 8 dX22_run_5 rfl fk_z_303 hv3 ?_
  refine J_ifnull 43 11 dX22_run_8 (by decide) rfl (fun c4 => ?_) (fun c4 => ?_)
  · rw [if_pos c4] at h
    exact jX22_run_c43 hγ l0  q1 h
  · rw [if_neg c4] at h
    refine J_aload_n (i := 0) 0 12 dX22_run_11 rfl rfl rfl ?_
    obtain ⟨v5, hv5, h⟩ := some_of_bind h
    refine J_gR 15 dX22_run_12 rfl fk_z_303 hv5 ?_
    refine J_aload_n (i := 0) 0 16 dX22_run_15 rfl rfl rfl ?_
    obtain ⟨v6, hv6, h⟩ := some_of_bind h
    refine J_gR 19 dX22_run_16 rfl fk_z_287 hv6 ?_
    obtain ⟨v7, hv7, h⟩ := some_of_bind h
    refine J_gR 22 dX22_run_19 rfl fk_z_288 hv7 ?_
    obtain ⟨q8, hq8, h⟩ := some_of_bind h
    refine J_cUi (na := 1) 25 dX22_run_22 rfl q2110 q571 q570 ⟨by decide, by decide, by decide +kernel⟩ (show (65 + 40) + 1 ≤ 112 by omega) cs_nil (by decide) [va_rf v7] rfl rfl (svTest hγ 40 v5 v7 q1 q8 hq8) ?_
    refine J_if_eq 41 28 dX22_run_25 (by decide) rfl (fun c9 => ?_) (fun c9 => ?_)
    · rw [if_pos c9] at h
      refine J_ic 42 dX22_run_41 rfl (0 : Int32) kic_0 ?_
      exact J_iret rfl dX22_run_42 (retI h)
    · rw [if_neg c9] at h
      refine J_aload_n (i := 0) 0 29 dX22_run_28 rfl rfl rfl ?_
      obtain ⟨v10, hv10, h⟩ := some_of_bind h
      refine J_gR 32 dX22_run_29 rfl fk_z_287 hv10 ?_
      obtain ⟨v11, hv11, h⟩ := some_of_bind h
      refine J_gR 35 dX22_run_32 rfl fk_z_288 hv11 ?_
      obtain ⟨v12, hv12, h⟩ := some_of_bind h
      refine J_gI 38 dX22_run_35 rfl fk_z_295 hv12 ?_
      refine J_if_eq 43 41 dX22_run_38 (by decide) rfl (fun c13 => ?_) (fun c13 => ?_)
      · rw [if_pos c13] at h
        exact jX22_run_c43 hγ l0  q8.2 h
      · rw [if_neg c13] at h
        refine J_ic 42 dX22_run_41 rfl (0 : Int32) kic_0 ?_
        exact J_iret rfl dX22_run_42 (retI h)
abbrev mX0_runAll : MP := (cX0_runAll, "MissCurves", 4, (Option.some FieldType.int), 113, "runAll", [])
theorem ykX0_runAll : YK yX0_runAll mX0_runAll 1 := ⟨q2100, q128, ⟨by decide, by decide⟩, by decide +kernel, Nat.le_of_ble_eq_true rfl, by decide, rfl, rfl⟩
theorem fk_z_304 : FOK "MissCurves" 486 [22] 5 isI := FOK.one (by decide) rfl (Nat.le_of_ble_eq_true rfl) (Or.inr ⟨_, q1448⟩) rfl
theorem pk_z_305 {nm9 : String} : POK "MissCurves" nm9 79 [0] 13 .int := POK.one (by decide) rfl (Nat.le_of_ble_eq_true rfl) (Or.inl ⟨_, q394, Or.inl rfl⟩) rfl (by decide +kernel) (Or.inl rfl)
theorem fk_z_306 : FOK "MissCurves" 494 [0] 24 isI := FOK.one (by decide) rfl (Nat.le_of_ble_eq_true rfl) (Or.inl ⟨_, q409, Or.inl rfl⟩) rfl
def X0_runAll_c10 (l0 : Option Nat) (l1 : Option Nat) (l2 : Int32) (k32 : Hp → Option (Int32 × Hp)) (k46 : Hp → Option (Int32 × Hp)) : Nat → Int32 → Hp → Option (Int32 × Hp)
  | 0, _, _ => none
  | n + 1, l3, σ =>
    (aR 13 σ l1 l2).bind fun v1 =>
    (gI σ v1 [22] 5).bind fun v2 =>
    if v2 ≤ l3 then
      k46  σ
    else
      (aR 13 σ l1 l2).bind fun v4 =>
      (cT σ v4 22).bind fun b6 =>
      (X22_run v4  σ).bind fun q5 =>
      if q5.1 = 0 then
        X0_runAll_c10 l0 l1 l2 k32 k46 n (l3 + (1 : Int32)) q5.2
      else
        k32  q5.2
set_option maxHeartbeats 4000000 in
theorem jX0_runAll_c10 {γ : GP} {σ0 : Hp} {q : (Int32 × Hp)} (hγ : GOK γ) (l0 : Option Nat) (l1 : Option Nat) (l2 : Int32) {k32 : Hp → Option (Int32 × Hp)} {k46 : Hp → Option (Int32 × Hp)} (hk32 : ∀  (σ : Hp), k32  σ = some q → J γ mX0_runAll (σ0, .inr (some (.int q.1)), q.2) σ 32 [(0, 1, va_rf l0), (2, 1, .int l2)] []) (hk46 : ∀  (σ : Hp), k46  σ = some q → J γ mX0_runAll (σ0, .inr (some (.int q.1)), q.2) σ 46 [(0, 1, va_rf l0), (1, 1, va_rf l1), (2, 1, .int l2)] []) : ∀ (n : Nat) (l3 : Int32) (σ : Hp), X0_runAll_c10 l0 l1 l2 k32 k46 n l3 σ = some q → J γ mX0_runAll (σ0, .inr (some (.int q.1)), q.2) σ 10 [(0, 1, va_rf l0), (1, 1, va_rf l1), (2, 1, .int l2), (3, 1, .int l3)] [] := by
  intro n
  induction n with
  | zero => intro l3 σ h; exact nomatch (show none = some q from h)
  | succ n ih =>
    intro l3 σ h
    rw [X0_runAll_c10] at h
    refine J_iload_n (i := 3) 3 11 dX0_runAll_10 rfl rfl rfl ?_
    refine J_aload_n (i := 1) 1 12 dX0_runAll_11 rfl rfl rfl ?_
    refine J_iload_n (i := 2) 2 13 dX0_runAll_12 rfl rfl rfl ?_
    obtain ⟨v1, hv1, h⟩ := some_of_bind h
    refine J_aald 13 (by decide) (by decide) rfl 14 dX0_runAll_13 rfl hv1 ?_
    obtain ⟨v2, hv2, h⟩ := some_of_bind h
    refine J_gI 17 dX0_runAll_14 rfl fk_z_304 hv2 ?_
    refine J_icmp_ge 46 20 dX0_runAll_17 (by decide) rfl (fun c3 => ?_) (fun c3 => ?_)
    · rw [if_pos c3] at h
      refine J.pick [0, 1, 2] rfl ?_
      exact hk46  σ h
    · rw [if_neg c3] at h
      refine J_aload_n (i := 1) 1 21 dX0_runAll_20 rfl rfl rfl ?_
      refine J_iload_n (i := 2) 2 22 dX0_runAll_21 rfl rfl rfl ?_
      obtain ⟨v4, hv4, h⟩ := some_of_bind h
      refine J_aald 13 (by decide) (by decide) rfl 23 dX0_runAll_22 rfl hv4 ?_
      obtain ⟨b6, hb6, h⟩ := some_of_bind h
      obtain ⟨q5, hq5, h⟩ := some_of_bind h
      refine J_cVi 26 dX0_runAll_23 rfl ykX22_run (Or.inl q2101) q2102 q2103 (Nat.le_of_ble_eq_true rfl) cs_nil (by decide) [] hb6 (by decide) rfl rfl rfl (sX22_run hγ v4  σ q5 hq5) ?_
      refine J_if_ne 32 29 dX0_runAll_26 (by decide) rfl (fun c7 => ?_) (fun c7 => ?_)
      · rw [if_neg c7] at h
        refine J.pick [0, 2] rfl ?_
        exact hk32  q5.2 h
      · rw [if_pos c7] at h
        refine J_goto 40 dX0_runAll_29 (by decide) ?_
        refine J_iinc (i := 3) (v := l3 + (1 : Int32)) 3 43 [(3, 1, .int (l3 + (1 : Int32))), (0, 1, va_rf l0), (1, 1, va_rf l1), (2, 1, .int l2)] dX0_runAll_40 rfl rfl (Nat.le_of_ble_eq_true rfl) (by rw [kic_1]) rfl ?_
        refine J_goto 10 dX0_runAll_43 (by decide) ?_
        refine J.pick [1, 2, 3, 0] rfl ?_
        exact ih (l3 + (1 : Int32)) q5.2 h
def X0_runAll_c2 (l0 : Option Nat) (l1 : Option Nat) (k32 : Int32 → Hp → Option (Int32 × Hp)) (k52 : Hp → Option (Int32 × Hp)) : Nat → Int32 → Hp → Option (Int32 × Hp)
  | 0, _, _ => none
  | n + 1, l2, σ =>
    (aN σ l1).bind fun v1 =>
    if v1 ≤ l2 then
      k52  σ
    else
      X0_runAll_c10 l0 l1 l2 (fun τ3 =>
        k32 l2 τ3)
      (fun τ4 =>
        X0_runAll_c2 l0 l1 k32 k52 n (l2 + (1 : Int32)) τ4) FUEL (0 : Int32) σ
set_option maxHeartbeats 4000000 in
theorem jX0_runAll_c2 {γ : GP} {σ0 : Hp} {q : (Int32 × Hp)} (hγ : GOK γ) (l0 : Option Nat) (l1 : Option Nat) {k32 : Int32 → Hp → Option (Int32 × Hp)} {k52 : Hp → Option (Int32 × Hp)} (hk32 : ∀ (l2 : Int32) (σ : Hp), k32 l2 σ = some q → J γ mX0_runAll (σ0, .inr (some (.int q.1)), q.2) σ 32 [(0, 1, va_rf l0), (2, 1, .int l2)] []) (hk52 : ∀  (σ : Hp), k52  σ = some q → J γ mX0_runAll (σ0, .inr (some (.int q.1)), q.2) σ 52 [(0, 1, va_rf l0)] []) : ∀ (n : Nat) (l2 : Int32) (σ : Hp), X0_runAll_c2 l0 l1 k32 k52 n l2 σ = some q → J γ mX0_runAll (σ0, .inr (some (.int q.1)), q.2) σ 2 [(0, 1, va_rf l0), (1, 1, va_rf l1), (2, 1, .int l2)] [] := by
  intro n
  induction n with
  | zero => intro l2 σ h; exact nomatch (show none = some q from h)
  | succ n ih =>
    intro l2 σ h
    rw [X0_runAll_c2] at h
    refine J_iload_n (i := 2) 2 3 dX0_runAll_2 rfl rfl rfl ?_
    refine J_aload_n (i := 1) 1 4 dX0_runAll_3 rfl rfl rfl ?_
    obtain ⟨v1, hv1, h⟩ := some_of_bind h
    refine J_alen 5 dX0_runAll_4 rfl hv1 ?_
    refine J_icmp_ge 52 8 dX0_runAll_5 (by decide) rfl (fun c2 => ?_) (fun c2 => ?_)
    · rw [if_pos c2] at h
      refine J.pick [0] rfl ?_
      exact hk52  σ h
    · rw [if_neg c2] at h
      refine J_ic 9 dX0_runAll_8 rfl (0 : Int32) kic_0 ?_
      refine J_istore_n (i := 3) 10 [(3, 1, .int (0 : Int32)), (0, 1, va_rf l0), (1, 1, va_rf l1), (2, 1, .int l2)] dX0_runAll_9 rfl rfl (Nat.le_of_ble_eq_true rfl) rfl ?_
      refine J.pick [1, 2, 3, 0] rfl ?_
      refine jX0_runAll_c10 hγ l0 l1 l2 (fun τ3 h => ?_) (fun τ4 h => ?_) FUEL (0 : Int32) σ h
      · exact hk32 l2 τ3 h
      · refine J_iinc (i := 2) (v := l2 + (1 : Int32)) 2 49 [(2, 1, .int (l2 + (1 : Int32))), (0, 1, va_rf l0), (1, 1, va_rf l1)] dX0_runAll_46 rfl rfl (Nat.le_of_ble_eq_true rfl) (by rw [kic_1]) rfl ?_
        refine J_goto 2 dX0_runAll_49 (by decide) ?_
        refine J.pick [1, 2, 0] rfl ?_
        exact ih (l2 + (1 : Int32)) τ4 h
def X0_runAll (l0 : Option Nat) (l1 : Option Nat) (σ : Hp) : Option (Int32 × Hp) :=
  X0_runAll_c2 l0 l1 (fun x1 τ2 =>
    (pI τ2 l0 [0] 13 x1).bind fun σ3 =>
    some ((-3 : Int32), σ3))
  (fun τ4 =>
    (gI τ4 l0 [0] 24).bind fun v5 =>
    some (v5, τ4)) FUEL (0 : Int32) σ
set_option maxHeartbeats 4000000 in
theorem sX0_runAll {γ : GP} (hγ : GOK γ) (l0 : Option Nat) (l1 : Option Nat) (σ : Hp) (q : (Int32 × Hp)) (h : X0_runAll l0 l1 σ = some q) : Rn γ mX0_runAll yX0_runAll [va_rf l0, va_rf l1] (σ, .inr (some (.int q.1)), q.2) := by
  refine J_m hγ ykX0_runAll rfl [(1, va_rf l0), (1, va_rf l1)] (cats_r (cats_r cats_nil)) (Nat.le_of_ble_eq_true rfl) ?_
  show J γ mX0_runAll _ σ 0 [(0, 1, va_rf l0), (1, 1, va_rf l1)] []
  unfold X0_runAll at h
  refine J_ic 1 dX0_runAll_0 rfl (0 : Int32) kic_0 ?_
  refine J_istore_n (i := 2) 2 [(2, 1, .int (0 : Int32)), (0, 1, va_rf l0), (1, 1, va_rf l1)] dX0_runAll_1 rfl rfl (Nat.le_of_ble_eq_true rfl) rfl ?_
  refine J.pick [1, 2, 0] rfl ?_
  refine jX0_runAll_c2 hγ l0 l1 (fun x1 τ2 h => ?_) (fun τ4 h => ?_) FUEL (0 : Int32) σ h
  · refine J_aload_n (i := 0) 0 33 dX0_runAll_32 rfl rfl rfl ?_
    refine J_iload_n (i := 2) 1 34 dX0_runAll_33 rfl rfl rfl ?_
    obtain ⟨σ3, hσ3, h⟩ := some_of_bind h
    refine J_pI 37 dX0_runAll_34 rfl pk_z_305 hσ3 ?_
    refine J_bipush 39 dX0_runAll_37 rfl (-3 : Int32) kbp_m3 ?_
    exact J_iret rfl dX0_runAll_39 (retI h)
  · refine J_aload_n (i := 0) 0 53 dX0_runAll_52 rfl rfl rfl ?_
    obtain ⟨v5, hv5, h⟩ := some_of_bind h
    refine J_gI 56 dX0_runAll_53 rfl fk_z_306 hv5 ?_
    exact J_iret rfl dX0_runAll_56 (retI h)
abbrev mX0_salted : MP := (cX0_salted, "MissCurves", 7, (Option.some FieldType.int), 2, "salted", [])
theorem ykX0_salted : YK yX0_salted mX0_salted 2 := ⟨q1820, q128, ⟨by decide, by decide⟩, by decide +kernel, Nat.le_of_ble_eq_true rfl, by decide, rfl, rfl⟩
theorem fk_z_307 : FOK "MissCurves" 426 [3] 3 isR := FOK.one (by decide) rfl (Nat.le_of_ble_eq_true rfl) (Or.inr ⟨_, q243⟩) rfl
def X0_salted_c45 (l2 : Int32) (l3 : Option Nat) (l5 : Int32) (k85 : Int32 → Hp → Option (Int32 × Hp)) : Nat → Int32 → Int32 → Hp → Option (Int32 × Hp)
  | 0, _, _, _ => none
  | n + 1, l4, l6, σ =>
    if (1000 : Int32) ≤ l6 then
      k85 l4 σ
    else
      (gR σ l3 [3] 3).bind fun v2 =>
      (aI 0 σ v2 l5).bind fun v3 =>
      (X0_hashOf v3 l6 σ).bind fun q4 =>
      if l2 ≤ q4.1 then
        X0_salted_c45 l2 l3 l5 k85 n (l4 + (0 : Int32)) (l6 + (1 : Int32)) q4.2
      else
        X0_salted_c45 l2 l3 l5 k85 n (l4 + (1 : Int32)) (l6 + (1 : Int32)) q4.2
set_option maxHeartbeats 4000000 in
theorem jX0_salted_c45 {γ : GP} {σ0 : Hp} {q : (Int32 × Hp)} (hγ : GOK γ) (l2 : Int32) (l3 : Option Nat) (l5 : Int32) {k85 : Int32 → Hp → Option (Int32 × Hp)} (hk85 : ∀ (l4 : Int32) (σ : Hp), k85 l4 σ = some q → J γ mX0_salted (σ0, .inr (some (.int q.1)), q.2) σ 85 [(2, 1, .int l2), (3, 1, va_rf l3), (4, 1, .int l4), (5, 1, .int l5)] []) : ∀ (n : Nat) (l4 : Int32) (l6 : Int32) (σ : Hp), X0_salted_c45 l2 l3 l5 k85 n l4 l6 σ = some q → J γ mX0_salted (σ0, .inr (some (.int q.1)), q.2) σ 45 [(2, 1, .int l2), (3, 1, va_rf l3), (4, 1, .int l4), (5, 1, .int l5), (6, 1, .int l6)] [] := by
  intro n
  induction n with
  | zero => intro l4 l6 σ h; exact nomatch (show none = some q from h)
  | succ n ih =>
    intro l4 l6 σ h
    rw [X0_salted_c45] at h
    refine J_iload (i := 6) 4 47 dX0_salted_45 rfl rfl ?_
    refine J_sipush 50 dX0_salted_47 rfl (1000 : Int32) ksp_1000 ?_
    refine J_icmp_ge 85 53 dX0_salted_50 (by decide) rfl (fun c1 => ?_) (fun c1 => ?_)
    · rw [if_pos c1] at h
      refine J.pick [0, 1, 2, 3] rfl ?_
      exact hk85 l4 σ h
    · rw [if_neg c1] at h
      refine J_iload (i := 4) 2 55 dX0_salted_53 rfl rfl ?_
      refine J_aload_n (i := 3) 1 56 dX0_salted_55 rfl rfl rfl ?_
      obtain ⟨v2, hv2, h⟩ := some_of_bind h
      refine J_gR 59 dX0_salted_56 rfl fk_z_307 hv2 ?_
      refine J_iload (i := 5) 3 61 dX0_salted_59 rfl rfl ?_
      obtain ⟨v3, hv3, h⟩ := some_of_bind h
      refine J_iald 62 dX0_salted_61 rfl hv3 ?_
      refine J_iload (i := 6) 4 64 dX0_salted_62 rfl rfl ?_
      obtain ⟨q4, hq4, h⟩ := some_of_bind h
      refine J_cSi 67 dX0_salted_64 rfl ykX0_hashOf (Or.inl q528) q529 (Nat.le_of_ble_eq_true rfl) (cs_int cs_nil) (by decide) [.int v3, .int l6] rfl rfl (sX0_hashOf hγ v3 l6 σ q4 hq4) ?_
      refine J_iload_n (i := 2) 0 68 dX0_salted_67 rfl rfl rfl ?_
      refine J_icmp_ge 75 71 dX0_salted_68 (by decide) rfl (fun c5 => ?_) (fun c5 => ?_)
      · rw [if_pos c5] at h
        refine J_ic 76 dX0_salted_75 rfl (0 : Int32) kic_0 ?_
        refine J_iadd 77 dX0_salted_76 rfl ?_
        refine J_istore (i := 4) 79 [(4, 1, .int (l4 + (0 : Int32))), (2, 1, .int l2), (3, 1, va_rf l3), (5, 1, .int l5), (6, 1, .int l6)] dX0_salted_77 rfl (Nat.le_of_ble_eq_true rfl) rfl ?_
        refine J_iinc (i := 6) (v := l6 + (1 : Int32)) 4 82 [(6, 1, .int (l6 + (1 : Int32))), (4, 1, .int (l4 + (0 : Int32))), (2, 1, .int l2), (3, 1, va_rf l3), (5, 1, .int l5)] dX0_salted_79 rfl rfl (Nat.le_of_ble_eq_true rfl) (by rw [kic_1]) rfl ?_
        refine J_goto 45 dX0_salted_82 (by decide) ?_
        refine J.pick [2, 3, 1, 4, 0] rfl ?_
        exact ih (l4 + (0 : Int32)) (l6 + (1 : Int32)) q4.2 h
      · rw [if_neg c5] at h
        refine J_ic 72 dX0_salted_71 rfl (1 : Int32) kic_1 ?_
        refine J_goto 76 dX0_salted_72 (by decide) ?_
        refine J_iadd 77 dX0_salted_76 rfl ?_
        refine J_istore (i := 4) 79 [(4, 1, .int (l4 + (1 : Int32))), (2, 1, .int l2), (3, 1, va_rf l3), (5, 1, .int l5), (6, 1, .int l6)] dX0_salted_77 rfl (Nat.le_of_ble_eq_true rfl) rfl ?_
        refine J_iinc (i := 6) (v := l6 + (1 : Int32)) 4 82 [(6, 1, .int (l6 + (1 : Int32))), (4, 1, .int (l4 + (1 : Int32))), (2, 1, .int l2), (3, 1, va_rf l3), (5, 1, .int l5)] dX0_salted_79 rfl rfl (Nat.le_of_ble_eq_true rfl) (by rw [kic_1]) rfl ?_
        refine J_goto 45 dX0_salted_82 (by decide) ?_
        refine J.pick [2, 3, 1, 4, 0] rfl ?_
        exact ih (l4 + (1 : Int32)) (l6 + (1 : Int32)) q4.2 h
def X0_salted_c33 (l2 : Int32) (l3 : Option Nat)  : Nat → Int32 → Int32 → Hp → Option (Int32 × Hp)
  | 0, _, _, _ => none
  | n + 1, l4, l5, σ =>
    (gI σ l3 [3] 7).bind fun v1 =>
    if v1 ≤ l5 then
      some (l4, σ)
    else
      X0_salted_c45 l2 l3 l5 (fun x3 τ4 =>
        X0_salted_c33 l2 l3 n x3 (l5 + (1 : Int32)) τ4) FUEL l4 (0 : Int32) σ
set_option maxHeartbeats 4000000 in
theorem jX0_salted_c33 {γ : GP} {σ0 : Hp} {q : (Int32 × Hp)} (hγ : GOK γ) (l2 : Int32) (l3 : Option Nat)  : ∀ (n : Nat) (l4 : Int32) (l5 : Int32) (σ : Hp), X0_salted_c33 l2 l3 n l4 l5 σ = some q → J γ mX0_salted (σ0, .inr (some (.int q.1)), q.2) σ 33 [(2, 1, .int l2), (3, 1, va_rf l3), (4, 1, .int l4), (5, 1, .int l5)] [] := by
  intro n
  induction n with
  | zero => intro l4 l5 σ h; exact nomatch (show none = some q from h)
  | succ n ih =>
    intro l4 l5 σ h
    rw [X0_salted_c33] at h
    refine J_iload (i := 5) 3 35 dX0_salted_33 rfl rfl ?_
    refine J_aload_n (i := 3) 1 36 dX0_salted_35 rfl rfl rfl ?_
    obtain ⟨v1, hv1, h⟩ := some_of_bind h
    refine J_gI 39 dX0_salted_36 rfl fk_z_284 hv1 ?_
    refine J_icmp_ge 91 42 dX0_salted_39 (by decide) rfl (fun c2 => ?_) (fun c2 => ?_)
    · rw [if_pos c2] at h
      refine J_iload (i := 4) 2 93 dX0_salted_91 rfl rfl ?_
      exact J_iret rfl dX0_salted_93 (retI h)
    · rw [if_neg c2] at h
      refine J_ic 43 dX0_salted_42 rfl (0 : Int32) kic_0 ?_
      refine J_istore (i := 6) 45 [(6, 1, .int (0 : Int32)), (2, 1, .int l2), (3, 1, va_rf l3), (4, 1, .int l4), (5, 1, .int l5)] dX0_salted_43 rfl (Nat.le_of_ble_eq_true rfl) rfl ?_
      refine J.pick [1, 2, 3, 4, 0] rfl ?_
      refine jX0_salted_c45 hγ l2 l3 l5 (fun x3 τ4 h => ?_) FUEL l4 (0 : Int32) σ h
      · refine J_iinc (i := 5) (v := l5 + (1 : Int32)) 3 88 [(5, 1, .int (l5 + (1 : Int32))), (2, 1, .int l2), (3, 1, va_rf l3), (4, 1, .int x3)] dX0_salted_85 rfl rfl (Nat.le_of_ble_eq_true rfl) (by rw [kic_1]) rfl ?_
        refine J_goto 33 dX0_salted_88 (by decide) ?_
        refine J.pick [1, 2, 3, 0] rfl ?_
        exact ih x3 (l5 + (1 : Int32)) τ4 h
def X0_salted (l0 : Option Nat) (l1 : Int32) (l2 : Int32) (σ : Hp) : Option (Int32 × Hp) :=
  (X0_isTenant l1 σ).bind fun q1 =>
  if q1.1 = 0 then
    some ((-1 : Int32), q1.2)
  else
    (X0_in l2.toInt64 (1 : Int64) (1000 : Int64) q1.2).bind fun q3 =>
    if q3.1 = 0 then
      some ((-1 : Int32), q3.2)
    else
      (cT q3.2 l0 0).bind fun b6 =>
      (X0_book l0 l1 q3.2).bind fun q5 =>
      X0_salted_c33 l2 q5.1  FUEL (0 : Int32) (0 : Int32) q5.2
set_option maxHeartbeats 4000000 in
theorem sX0_salted {γ : GP} (hγ : GOK γ) (l0 : Option Nat) (l1 : Int32) (l2 : Int32) (σ : Hp) (q : (Int32 × Hp)) (h : X0_salted l0 l1 l2 σ = some q) : Rn γ mX0_salted yX0_salted [va_rf l0, .int l1, .int l2] (σ, .inr (some (.int q.1)), q.2) := by
  refine J_m hγ ykX0_salted rfl [(1, va_rf l0), (1, .int l1), (1, .int l2)] (cats_r (cats_i (cats_i cats_nil))) (Nat.le_of_ble_eq_true rfl) ?_
  show J γ mX0_salted _ σ 0 [(0, 1, va_rf l0), (1, 1, .int l1), (2, 1, .int l2)] []
  unfold X0_salted at h
  refine J_iload_n (i := 1) 1 1 dX0_salted_0 rfl rfl rfl ?_
  obtain ⟨q1, hq1, h⟩ := some_of_bind h
  refine J_cSi 4 dX0_salted_1 rfl ykX0_isTenant (Or.inl q491) q492 (Nat.le_of_ble_eq_true rfl) cs_nil (by decide) [.int l1] rfl rfl (sX0_isTenant hγ l1 σ q1 hq1) ?_
  refine J_if_eq 19 7 dX0_salted_4 (by decide) rfl (fun c2 => ?_) (fun c2 => ?_)
  · rw [if_pos c2] at h
    refine J_ic 20 dX0_salted_19 rfl (-1 : Int32) kic_m1 ?_
    exact J_iret rfl dX0_salted_20 (retI h)
  · rw [if_neg c2] at h
    refine J_iload_n (i := 2) 2 8 dX0_salted_7 rfl rfl rfl ?_
    refine J_i2l 9 dX0_salted_8 rfl ?_
    refine J_lconst 10 dX0_salted_9 rfl (1 : Int64) rfl ?_
    refine J_ldc2 (v := (1000 : Int64)) 13 dX0_salted_10 rfl q1664 ?_
    obtain ⟨q3, hq3, h⟩ := some_of_bind h
    refine J_cSi 16 dX0_salted_13 rfl ykX0_in (Or.inl q484) q485 (Nat.le_of_ble_eq_true rfl) cs_nil (by decide) [.long l2.toInt64, .long (1 : Int64), .long (1000 : Int64)] rfl rfl (sX0_in hγ l2.toInt64 (1 : Int64) (1000 : Int64) q1.2 q3 hq3) ?_
    refine J_if_ne 21 19 dX0_salted_16 (by decide) rfl (fun c4 => ?_) (fun c4 => ?_)
    · rw [if_neg c4] at h
      refine J_aload_n (i := 0) 0 22 dX0_salted_21 rfl rfl rfl ?_
      refine J_iload_n (i := 1) 1 23 dX0_salted_22 rfl rfl rfl ?_
      obtain ⟨b6, hb6, h⟩ := some_of_bind h
      obtain ⟨q5, hq5, h⟩ := some_of_bind h
      refine J_cVr 26 dX0_salted_23 rfl ykX0_book (Or.inl q495) q497 qs1 (Nat.le_of_ble_eq_true rfl) cs_nil (by decide) [.int l1] hb6 (by decide) rfl rfl rfl (sX0_book hγ l0 l1 q3.2 q5 hq5) ?_
      refine J_astore_n (i := 3) 27 [(3, 1, va_rf q5.1), (0, 1, va_rf l0), (1, 1, .int l1), (2, 1, .int l2)] dX0_salted_26 rfl rfl (Nat.le_of_ble_eq_true rfl) rfl ?_
      refine J_ic 28 dX0_salted_27 rfl (0 : Int32) kic_0 ?_
      refine J_istore (i := 4) 30 [(4, 1, .int (0 : Int32)), (3, 1, va_rf q5.1), (0, 1, va_rf l0), (1, 1, .int l1), (2, 1, .int l2)] dX0_salted_28 rfl (Nat.le_of_ble_eq_true rfl) rfl ?_
      refine J_ic 31 dX0_salted_30 rfl (0 : Int32) kic_0 ?_
      refine J_istore (i := 5) 33 [(5, 1, .int (0 : Int32)), (4, 1, .int (0 : Int32)), (3, 1, va_rf q5.1), (0, 1, va_rf l0), (1, 1, .int l1), (2, 1, .int l2)] dX0_salted_31 rfl (Nat.le_of_ble_eq_true rfl) rfl ?_
      refine J.pick [5, 2, 1, 0] rfl ?_
      refine jX0_salted_c33 hγ l2 q5.1  FUEL (0 : Int32) (0 : Int32) q5.2 h
    · rw [if_pos c4] at h
      refine J_ic 20 dX0_salted_19 rfl (-1 : Int32) kic_m1 ?_
      exact J_iret rfl dX0_salted_20 (retI h)
abbrev mX0_seen : MP := (cX0_seen, "MissCurves", 4, (Option.some FieldType.int), 2, "seen", [])
theorem ykX0_seen : YK yX0_seen mX0_seen 2 := ⟨q2021, q128, ⟨by decide, by decide⟩, by decide +kernel, Nat.le_of_ble_eq_true rfl, by decide, rfl, rfl⟩
def X0_seen_c19  (l0 : Option Nat)  (σ : Hp) : Option (Int32 × Hp) :=
  (cT σ l0 0).bind fun b2 =>
  (X0_tell l0 (-1 : Int32) σ).bind fun q1 =>
  some (q1.1, q1.2)
set_option maxHeartbeats 4000000 in
theorem jX0_seen_c19 {γ : GP} {σ0 : Hp} {q : (Int32 × Hp)} (hγ : GOK γ) (l0 : Option Nat)   (σ : Hp) (h : X0_seen_c19 l0 σ = some q) : J γ mX0_seen (σ0, .inr (some (.int q.1)), q.2) σ 19 [(0, 1, va_rf l0)] [] := by
  unfold X0_seen_c19 at h
  refine J_aload_n (i := 0) 0 20 dX0_seen_19 rfl rfl rfl ?_
  refine J_ic 21 dX0_seen_20 rfl (-1 : Int32) kic_m1 ?_
  obtain ⟨b2, hb2, h⟩ := some_of_bind h
  obtain ⟨q1, hq1, h⟩ := some_of_bind h
  refine J_cVi 24 dX0_seen_21 rfl ykX0_tell (Or.inl q630) q632 qs7 (Nat.le_of_ble_eq_true rfl) cs_nil (by decide) [.int (-1 : Int32)] hb2 (by decide) rfl rfl rfl (sX0_tell hγ l0 (-1 : Int32) σ q1 hq1) ?_
  exact J_iret rfl dX0_seen_24 (retI h)
def X0_seen (l0 : Option Nat) (l1 : Int32) (l2 : Int32) (σ : Hp) : Option (Int32 × Hp) :=
  (X0_isSize l1 σ).bind fun q1 =>
  if q1.1 = 0 then
    X0_seen_c19  l0  q1.2
  else
    (X0_in l2.toInt64 (0 : Int64) (99999 : Int64) q1.2).bind fun q3 =>
    if q3.1 = 0 then
      X0_seen_c19  l0  q3.2
    else
      (gR q3.2 l0 [0] 0).bind fun v5 =>
      (gI q3.2 v5 [1] 5).bind fun v6 =>
      if v6 = (6 : Int32) then
        (cT q3.2 l0 0).bind fun b21 =>
        (X0_tell l0 (-5 : Int32) q3.2).bind fun q20 =>
        some (q20.1, q20.2)
      else
        (gR q3.2 l0 [0] 0).bind fun v8 =>
        (gR q3.2 v8 [1] 2).bind fun v9 =>
        (gR q3.2 l0 [0] 0).bind fun v10 =>
        (gI q3.2 v10 [1] 5).bind fun v11 =>
        (pI q3.2 v10 [1] 5 (v11 + (1 : Int32))).bind fun σ12 =>
        (aR 5 σ12 v9 v11).bind fun v13 =>
        (sI 0 σ12 v13 (0 : Int32) l1).bind fun σ14 =>
        (sI 0 σ14 v13 (1 : Int32) l2).bind fun σ15 =>
        (gR σ15 l0 [0] 0).bind fun v16 =>
        (gI σ15 v16 [1] 5).bind fun v17 =>
        (cT σ15 l0 0).bind fun b19 =>
        (X0_tell l0 v17 σ15).bind fun q18 =>
        some (q18.1, q18.2)
set_option maxHeartbeats 4000000 in
theorem sX0_seen {γ : GP} (hγ : GOK γ) (l0 : Option Nat) (l1 : Int32) (l2 : Int32) (σ : Hp) (q : (Int32 × Hp)) (h : X0_seen l0 l1 l2 σ = some q) : Rn γ mX0_seen yX0_seen [va_rf l0, .int l1, .int l2] (σ, .inr (some (.int q.1)), q.2) := by
  refine J_m hγ ykX0_seen rfl [(1, va_rf l0), (1, .int l1), (1, .int l2)] (cats_r (cats_i (cats_i cats_nil))) (Nat.le_of_ble_eq_true rfl) ?_
  show J γ mX0_seen _ σ 0 [(0, 1, va_rf l0), (1, 1, .int l1), (2, 1, .int l2)] []
  unfold X0_seen at h
  refine J_iload_n (i := 1) 1 1 dX0_seen_0 rfl rfl rfl ?_
  obtain ⟨q1, hq1, h⟩ := some_of_bind h
  refine J_cSi 4 dX0_seen_1 rfl ykX0_isSize (Or.inl q1639) q1640 (Nat.le_of_ble_eq_true rfl) cs_nil (by decide) [.int l1] rfl rfl (sX0_isSize hγ l1 σ q1 hq1) ?_
  refine J_if_eq 19 7 dX0_seen_4 (by decide) rfl (fun c2 => ?_) (fun c2 => ?_)
  · rw [if_pos c2] at h
    refine J.pick [0] rfl ?_
    exact jX0_seen_c19 hγ l0  q1.2 h
  · rw [if_neg c2] at h
    refine J_iload_n (i := 2) 2 8 dX0_seen_7 rfl rfl rfl ?_
    refine J_i2l 9 dX0_seen_8 rfl ?_
    refine J_lconst 10 dX0_seen_9 rfl (0 : Int64) rfl ?_
    refine J_ldc2 (v := (99999 : Int64)) 13 dX0_seen_10 rfl q2022 ?_
    obtain ⟨q3, hq3, h⟩ := some_of_bind h
    refine J_cSi 16 dX0_seen_13 rfl ykX0_in (Or.inl q484) q485 (Nat.le_of_ble_eq_true rfl) cs_nil (by decide) [.long l2.toInt64, .long (0 : Int64), .long (99999 : Int64)] rfl rfl (sX0_in hγ l2.toInt64 (0 : Int64) (99999 : Int64) q1.2 q3 hq3) ?_
    refine J_if_ne 25 19 dX0_seen_16 (by decide) rfl (fun c4 => ?_) (fun c4 => ?_)
    · rw [if_neg c4] at h
      refine J_aload_n (i := 0) 0 26 dX0_seen_25 rfl rfl rfl ?_
      obtain ⟨v5, hv5, h⟩ := some_of_bind h
      refine J_gR 29 dX0_seen_26 rfl fk_x_133 hv5 ?_
      obtain ⟨v6, hv6, h⟩ := some_of_bind h
      refine J_gI 32 dX0_seen_29 rfl fk_z_234 hv6 ?_
      refine J_bipush 34 dX0_seen_32 rfl (6 : Int32) kbp_6 ?_
      refine J_icmp_ne 44 37 dX0_seen_34 (by decide) rfl (fun c7 => ?_) (fun c7 => ?_)
      · rw [if_neg c7] at h
        refine J_aload_n (i := 0) 0 45 dX0_seen_44 rfl rfl rfl ?_
        obtain ⟨v8, hv8, h⟩ := some_of_bind h
        refine J_gR 48 dX0_seen_45 rfl fk_x_133 hv8 ?_
        obtain ⟨v9, hv9, h⟩ := some_of_bind h
        refine J_gR 51 dX0_seen_48 rfl fk_z_235 hv9 ?_
        refine J_aload_n (i := 0) 0 52 dX0_seen_51 rfl rfl rfl ?_
        obtain ⟨v10, hv10, h⟩ := some_of_bind h
        refine J_gR 55 dX0_seen_52 rfl fk_x_133 hv10 ?_
        refine J_dupr 56 dX0_seen_55 rfl ?_
        obtain ⟨v11, hv11, h⟩ := some_of_bind h
        refine J_gI 59 dX0_seen_56 rfl fk_z_234 hv11 ?_
        refine J_dup_x1ir 60 dX0_seen_59 rfl ?_
        refine J_ic 61 dX0_seen_60 rfl (1 : Int32) kic_1 ?_
        refine J_iadd 62 dX0_seen_61 rfl ?_
        obtain ⟨σ12, hσ12, h⟩ := some_of_bind h
        refine J_pI 65 dX0_seen_62 rfl pk_z_275 hσ12 ?_
        obtain ⟨v13, hv13, h⟩ := some_of_bind h
        refine J_aald 5 (by decide) (by decide) rfl 66 dX0_seen_65 rfl hv13 ?_
        refine J_astore_n (i := 3) 67 [(3, 1, va_rf v13), (0, 1, va_rf l0), (1, 1, .int l1), (2, 1, .int l2)] dX0_seen_66 rfl rfl (Nat.le_of_ble_eq_true rfl) rfl ?_
        refine J_aload_n (i := 3) 0 68 dX0_seen_67 rfl rfl rfl ?_
        refine J_ic 69 dX0_seen_68 rfl (0 : Int32) kic_0 ?_
        refine J_iload_n (i := 1) 2 70 dX0_seen_69 rfl rfl rfl ?_
        obtain ⟨σ14, hσ14, h⟩ := some_of_bind h
        refine J_iast 71 dX0_seen_70 rfl hσ14 ?_
        refine J_aload_n (i := 3) 0 72 dX0_seen_71 rfl rfl rfl ?_
        refine J_ic 73 dX0_seen_72 rfl (1 : Int32) kic_1 ?_
        refine J_iload_n (i := 2) 3 74 dX0_seen_73 rfl rfl rfl ?_
        obtain ⟨σ15, hσ15, h⟩ := some_of_bind h
        refine J_iast 75 dX0_seen_74 rfl hσ15 ?_
        refine J_aload_n (i := 0) 1 76 dX0_seen_75 rfl rfl rfl ?_
        refine J_aload_n (i := 0) 1 77 dX0_seen_76 rfl rfl rfl ?_
        obtain ⟨v16, hv16, h⟩ := some_of_bind h
        refine J_gR 80 dX0_seen_77 rfl fk_x_133 hv16 ?_
        obtain ⟨v17, hv17, h⟩ := some_of_bind h
        refine J_gI 83 dX0_seen_80 rfl fk_z_234 hv17 ?_
        obtain ⟨b19, hb19, h⟩ := some_of_bind h
        obtain ⟨q18, hq18, h⟩ := some_of_bind h
        refine J_cVi 86 dX0_seen_83 rfl ykX0_tell (Or.inl q630) q632 qs7 (Nat.le_of_ble_eq_true rfl) cs_nil (by decide) [.int v17] hb19 (by decide) rfl rfl rfl (sX0_tell hγ l0 v17 σ15 q18 hq18) ?_
        exact J_iret rfl dX0_seen_86 (retI h)
      · rw [if_pos c7] at h
        refine J_aload_n (i := 0) 0 38 dX0_seen_37 rfl rfl rfl ?_
        refine J_bipush 40 dX0_seen_38 rfl (-5 : Int32) kbp_m5 ?_
        obtain ⟨b21, hb21, h⟩ := some_of_bind h
        obtain ⟨q20, hq20, h⟩ := some_of_bind h
        refine J_cVi 43 dX0_seen_40 rfl ykX0_tell (Or.inl q630) q632 qs7 (Nat.le_of_ble_eq_true rfl) cs_nil (by decide) [.int (-5 : Int32)] hb21 (by decide) rfl rfl rfl (sX0_tell hγ l0 (-5 : Int32) q3.2 q20 hq20) ?_
        exact J_iret rfl dX0_seen_43 (retI h)
    · rw [if_pos c4] at h
      refine J.pick [0] rfl ?_
      exact jX0_seen_c19 hγ l0  q3.2 h
abbrev mX0_share : MP := (cX0_share, "MissCurves", 6, (Option.some FieldType.int), 4, "share", [])
theorem ykX0_share : YK yX0_share mX0_share 2 := ⟨q1824, q128, ⟨by decide, by decide⟩, by decide +kernel, Nat.le_of_ble_eq_true rfl, by decide, rfl, rfl⟩
theorem fk_z_308 : FOK "MissCurves" 98 [0] 20 isR := FOK.one (by decide) rfl (Nat.le_of_ble_eq_true rfl) (Or.inl ⟨_, q404, Or.inl rfl⟩) rfl
def X0_share_c46 (l0 : Option Nat) (l1 : Int32) (l2 : Int32) (l3 : Int32) (k151 : Int32 → Hp → Option (Int32 × Hp)) : Nat → Int32 → Int32 → Hp → Option (Int32 × Hp)
  | 0, _, _, _ => none
  | n + 1, l4, l5, σ =>
    if (4 : Int32) ≤ l5 then
      k151 l4 σ
    else
      (gR σ l0 [0] 20).bind fun v2 =>
      (aI 0 σ v2 l5).bind fun v3 =>
      if v3 = (24 : Int32) then
        X0_share_c46 l0 l1 l2 l3 k151 n l4 (l5 + (1 : Int32)) σ
      else
        if l4 = (-1 : Int32) then
          X0_share_c46 l0 l1 l2 l3 k151 n l5 (l5 + (1 : Int32)) σ
        else
          (gR σ l0 [0] 21).bind fun v6 =>
          (aR 6 σ v6 l5).bind fun v7 =>
          (gR σ l0 [0] 20).bind fun v8 =>
          (aI 0 σ v8 l5).bind fun v9 =>
          (aL σ v7 v9).bind fun v10 =>
          (gR σ l0 [0] 22).bind fun v11 =>
          (aR 5 σ v11 l4).bind fun v12 =>
          (gR σ l0 [0] 20).bind fun v13 =>
          (aI 0 σ v13 l4).bind fun v14 =>
          (aI 0 σ v12 v14).bind fun v15 =>
          (gR σ l0 [0] 21).bind fun v16 =>
          (aR 6 σ v16 l4).bind fun v17 =>
          (gR σ l0 [0] 20).bind fun v18 =>
          (aI 0 σ v18 l4).bind fun v19 =>
          (aL σ v17 v19).bind fun v20 =>
          (gR σ l0 [0] 22).bind fun v21 =>
          (aR 5 σ v21 l5).bind fun v22 =>
          (gR σ l0 [0] 20).bind fun v23 =>
          (aI 0 σ v23 l5).bind fun v24 =>
          (aI 0 σ v22 v24).bind fun v25 =>
          if (lg_cmp (v10 * v15.toInt64) (v20 * v25.toInt64)) ≤ 0 then
            X0_share_c46 l0 l1 l2 l3 k151 n l4 (l5 + (1 : Int32)) σ
          else
            X0_share_c46 l0 l1 l2 l3 k151 n l5 (l5 + (1 : Int32)) σ
set_option maxHeartbeats 4000000 in
theorem jX0_share_c46 {γ : GP} {σ0 : Hp} {q : (Int32 × Hp)} (hγ : GOK γ) (l0 : Option Nat) (l1 : Int32) (l2 : Int32) (l3 : Int32) {k151 : Int32 → Hp → Option (Int32 × Hp)} (hk151 : ∀ (l4 : Int32) (σ : Hp), k151 l4 σ = some q → J γ mX0_share (σ0, .inr (some (.int q.1)), q.2) σ 151 [(0, 1, va_rf l0), (1, 1, .int l1), (2, 1, .int l2), (3, 1, .int l3), (4, 1, .int l4)] []) : ∀ (n : Nat) (l4 : Int32) (l5 : Int32) (σ : Hp), X0_share_c46 l0 l1 l2 l3 k151 n l4 l5 σ = some q → J γ mX0_share (σ0, .inr (some (.int q.1)), q.2) σ 46 [(0, 1, va_rf l0), (1, 1, .int l1), (2, 1, .int l2), (3, 1, .int l3), (4, 1, .int l4), (5, 1, .int l5)] [] := by
  intro n
  induction n with
  | zero => intro l4 l5 σ h; exact nomatch (show none = some q from h)
  | succ n ih =>
    intro l4 l5 σ h
    rw [X0_share_c46] at h
    refine J_iload (i := 5) 5 48 dX0_share_46 rfl rfl ?_
    refine J_ic 49 dX0_share_48 rfl (4 : Int32) kic_4 ?_
    refine J_icmp_ge 151 52 dX0_share_49 (by decide) rfl (fun c1 => ?_) (fun c1 => ?_)
    · rw [if_pos c1] at h
      refine J.pick [0, 1, 2, 3, 4] rfl ?_
      exact hk151 l4 σ h
    · rw [if_neg c1] at h
      refine J_aload_n (i := 0) 0 53 dX0_share_52 rfl rfl rfl ?_
      obtain ⟨v2, hv2, h⟩ := some_of_bind h
      refine J_gR 56 dX0_share_53 rfl fk_z_308 hv2 ?_
      refine J_iload (i := 5) 5 58 dX0_share_56 rfl rfl ?_
      obtain ⟨v3, hv3, h⟩ := some_of_bind h
      refine J_iald 59 dX0_share_58 rfl hv3 ?_
      refine J_bipush 61 dX0_share_59 rfl (24 : Int32) kbp_24 ?_
      refine J_icmp_ne 67 64 dX0_share_61 (by decide) rfl (fun c4 => ?_) (fun c4 => ?_)
      · rw [if_neg c4] at h
        refine J_iload (i := 4) 4 69 dX0_share_67 rfl rfl ?_
        refine J_ic 70 dX0_share_69 rfl (-1 : Int32) kic_m1 ?_
        refine J_icmp_eq 141 73 dX0_share_70 (by decide) rfl (fun c5 => ?_) (fun c5 => ?_)
        · rw [if_pos c5] at h
          refine J_iload (i := 5) 5 143 dX0_share_141 rfl rfl ?_
          refine J_istore (i := 4) 145 [(4, 1, .int l5), (0, 1, va_rf l0), (1, 1, .int l1), (2, 1, .int l2), (3, 1, .int l3), (5, 1, .int l5)] dX0_share_143 rfl (Nat.le_of_ble_eq_true rfl) rfl ?_
          refine J_iinc (i := 5) (v := l5 + (1 : Int32)) 5 148 [(5, 1, .int (l5 + (1 : Int32))), (4, 1, .int l5), (0, 1, va_rf l0), (1, 1, .int l1), (2, 1, .int l2), (3, 1, .int l3)] dX0_share_145 rfl rfl (Nat.le_of_ble_eq_true rfl) (by rw [kic_1]) rfl ?_
          refine J_goto 46 dX0_share_148 (by decide) ?_
          refine J.pick [2, 3, 4, 5, 1, 0] rfl ?_
          exact ih l5 (l5 + (1 : Int32)) σ h
        · rw [if_neg c5] at h
          refine J_aload_n (i := 0) 0 74 dX0_share_73 rfl rfl rfl ?_
          obtain ⟨v6, hv6, h⟩ := some_of_bind h
          refine J_gR 77 dX0_share_74 rfl fk_z_277 hv6 ?_
          refine J_iload (i := 5) 5 79 dX0_share_77 rfl rfl ?_
          obtain ⟨v7, hv7, h⟩ := some_of_bind h
          refine J_aald 6 (by decide) (by decide) rfl 80 dX0_share_79 rfl hv7 ?_
          refine J_aload_n (i := 0) 0 81 dX0_share_80 rfl rfl rfl ?_
          obtain ⟨v8, hv8, h⟩ := some_of_bind h
          refine J_gR 84 dX0_share_81 rfl fk_z_308 hv8 ?_
          refine J_iload (i := 5) 5 86 dX0_share_84 rfl rfl ?_
          obtain ⟨v9, hv9, h⟩ := some_of_bind h
          refine J_iald 87 dX0_share_86 rfl hv9 ?_
          obtain ⟨v10, hv10, h⟩ := some_of_bind h
          refine J_lald 88 dX0_share_87 rfl hv10 ?_
          refine J_aload_n (i := 0) 0 89 dX0_share_88 rfl rfl rfl ?_
          obtain ⟨v11, hv11, h⟩ := some_of_bind h
          refine J_gR 92 dX0_share_89 rfl fk_z_278 hv11 ?_
          refine J_iload (i := 4) 4 94 dX0_share_92 rfl rfl ?_
          obtain ⟨v12, hv12, h⟩ := some_of_bind h
          refine J_aald 5 (by decide) (by decide) rfl 95 dX0_share_94 rfl hv12 ?_
          refine J_aload_n (i := 0) 0 96 dX0_share_95 rfl rfl rfl ?_
          obtain ⟨v13, hv13, h⟩ := some_of_bind h
          refine J_gR 99 dX0_share_96 rfl fk_z_308 hv13 ?_
          refine J_iload (i := 4) 4 101 dX0_share_99 rfl rfl ?_
          obtain ⟨v14, hv14, h⟩ := some_of_bind h
          refine J_iald 102 dX0_share_101 rfl hv14 ?_
          obtain ⟨v15, hv15, h⟩ := some_of_bind h
          refine J_iald 103 dX0_share_102 rfl hv15 ?_
          refine J_i2l 104 dX0_share_103 rfl ?_
          refine J_lmul 105 dX0_share_104 rfl ?_
          refine J_aload_n (i := 0) 0 106 dX0_share_105 rfl rfl rfl ?_
          obtain ⟨v16, hv16, h⟩ := some_of_bind h
          refine J_gR 109 dX0_share_106 rfl fk_z_277 hv16 ?_
          refine J_iload (i := 4) 4 111 dX0_share_109 rfl rfl ?_
          obtain ⟨v17, hv17, h⟩ := some_of_bind h
          refine J_aald 6 (by decide) (by decide) rfl 112 dX0_share_111 rfl hv17 ?_
          refine J_aload_n (i := 0) 0 113 dX0_share_112 rfl rfl rfl ?_
          obtain ⟨v18, hv18, h⟩ := some_of_bind h
          refine J_gR 116 dX0_share_113 rfl fk_z_308 hv18 ?_
          refine J_iload (i := 4) 4 118 dX0_share_116 rfl rfl ?_
          obtain ⟨v19, hv19, h⟩ := some_of_bind h
          refine J_iald 119 dX0_share_118 rfl hv19 ?_
          obtain ⟨v20, hv20, h⟩ := some_of_bind h
          refine J_lald 120 dX0_share_119 rfl hv20 ?_
          refine J_aload_n (i := 0) 0 121 dX0_share_120 rfl rfl rfl ?_
          obtain ⟨v21, hv21, h⟩ := some_of_bind h
          refine J_gR 124 dX0_share_121 rfl fk_z_278 hv21 ?_
          refine J_iload (i := 5) 5 126 dX0_share_124 rfl rfl ?_
          obtain ⟨v22, hv22, h⟩ := some_of_bind h
          refine J_aald 5 (by decide) (by decide) rfl 127 dX0_share_126 rfl hv22 ?_
          refine J_aload_n (i := 0) 0 128 dX0_share_127 rfl rfl rfl ?_
          obtain ⟨v23, hv23, h⟩ := some_of_bind h
          refine J_gR 131 dX0_share_128 rfl fk_z_308 hv23 ?_
          refine J_iload (i := 5) 5 133 dX0_share_131 rfl rfl ?_
          obtain ⟨v24, hv24, h⟩ := some_of_bind h
          refine J_iald 134 dX0_share_133 rfl hv24 ?_
          obtain ⟨v25, hv25, h⟩ := some_of_bind h
          refine J_iald 135 dX0_share_134 rfl hv25 ?_
          refine J_i2l 136 dX0_share_135 rfl ?_
          refine J_lmul 137 dX0_share_136 rfl ?_
          refine J_lcmp 138 dX0_share_137 rfl ?_
          refine J_if_le 145 141 dX0_share_138 (by decide) rfl (fun c26 => ?_) (fun c26 => ?_)
          · rw [if_pos c26] at h
            refine J_iinc (i := 5) (v := l5 + (1 : Int32)) 5 148 [(5, 1, .int (l5 + (1 : Int32))), (0, 1, va_rf l0), (1, 1, .int l1), (2, 1, .int l2), (3, 1, .int l3), (4, 1, .int l4)] dX0_share_145 rfl rfl (Nat.le_of_ble_eq_true rfl) (by rw [kic_1]) rfl ?_
            refine J_goto 46 dX0_share_148 (by decide) ?_
            refine J.pick [1, 2, 3, 4, 5, 0] rfl ?_
            exact ih l4 (l5 + (1 : Int32)) σ h
          · rw [if_neg c26] at h
            refine J_iload (i := 5) 5 143 dX0_share_141 rfl rfl ?_
            refine J_istore (i := 4) 145 [(4, 1, .int l5), (0, 1, va_rf l0), (1, 1, .int l1), (2, 1, .int l2), (3, 1, .int l3), (5, 1, .int l5)] dX0_share_143 rfl (Nat.le_of_ble_eq_true rfl) rfl ?_
            refine J_iinc (i := 5) (v := l5 + (1 : Int32)) 5 148 [(5, 1, .int (l5 + (1 : Int32))), (4, 1, .int l5), (0, 1, va_rf l0), (1, 1, .int l1), (2, 1, .int l2), (3, 1, .int l3)] dX0_share_145 rfl rfl (Nat.le_of_ble_eq_true rfl) (by rw [kic_1]) rfl ?_
            refine J_goto 46 dX0_share_148 (by decide) ?_
            refine J.pick [2, 3, 4, 5, 1, 0] rfl ?_
            exact ih l5 (l5 + (1 : Int32)) σ h
      · rw [if_pos c4] at h
        refine J_goto 145 dX0_share_64 (by decide) ?_
        refine J_iinc (i := 5) (v := l5 + (1 : Int32)) 5 148 [(5, 1, .int (l5 + (1 : Int32))), (0, 1, va_rf l0), (1, 1, .int l1), (2, 1, .int l2), (3, 1, .int l3), (4, 1, .int l4)] dX0_share_145 rfl rfl (Nat.le_of_ble_eq_true rfl) (by rw [kic_1]) rfl ?_
        refine J_goto 46 dX0_share_148 (by decide) ?_
        refine J.pick [1, 2, 3, 4, 5, 0] rfl ?_
        exact ih l4 (l5 + (1 : Int32)) σ h
def X0_share_c35 (l0 : Option Nat) (l1 : Int32) (l2 : Int32) (k168 : Hp → Option (Int32 × Hp)) : Nat → Int32 → Hp → Option (Int32 × Hp)
  | 0, _, _ => none
  | n + 1, l3, σ =>
    if l1 ≤ l3 then
      k168  σ
    else
      X0_share_c46 l0 l1 l2 l3 (fun x2 τ3 =>
        (gR τ3 l0 [0] 20).bind fun v4 =>
        (aI 0 τ3 v4 x2).bind fun v5 =>
        (sI 0 τ3 v4 x2 (v5 + (1 : Int32))).bind fun σ6 =>
        X0_share_c35 l0 l1 l2 k168 n (l3 + (1 : Int32)) σ6) FUEL (-1 : Int32) (0 : Int32) σ
set_option maxHeartbeats 4000000 in
theorem jX0_share_c35 {γ : GP} {σ0 : Hp} {q : (Int32 × Hp)} (hγ : GOK γ) (l0 : Option Nat) (l1 : Int32) (l2 : Int32) {k168 : Hp → Option (Int32 × Hp)} (hk168 : ∀  (σ : Hp), k168  σ = some q → J γ mX0_share (σ0, .inr (some (.int q.1)), q.2) σ 168 [(0, 1, va_rf l0), (2, 1, .int l2)] []) : ∀ (n : Nat) (l3 : Int32) (σ : Hp), X0_share_c35 l0 l1 l2 k168 n l3 σ = some q → J γ mX0_share (σ0, .inr (some (.int q.1)), q.2) σ 35 [(0, 1, va_rf l0), (1, 1, .int l1), (2, 1, .int l2), (3, 1, .int l3)] [] := by
  intro n
  induction n with
  | zero => intro l3 σ h; exact nomatch (show none = some q from h)
  | succ n ih =>
    intro l3 σ h
    rw [X0_share_c35] at h
    refine J_iload_n (i := 3) 3 36 dX0_share_35 rfl rfl rfl ?_
    refine J_iload_n (i := 1) 1 37 dX0_share_36 rfl rfl rfl ?_
    refine J_icmp_ge 168 40 dX0_share_37 (by decide) rfl (fun c1 => ?_) (fun c1 => ?_)
    · rw [if_pos c1] at h
      refine J.pick [0, 2] rfl ?_
      exact hk168  σ h
    · rw [if_neg c1] at h
      refine J_ic 41 dX0_share_40 rfl (-1 : Int32) kic_m1 ?_
      refine J_istore (i := 4) 43 [(4, 1, .int (-1 : Int32)), (0, 1, va_rf l0), (1, 1, .int l1), (2, 1, .int l2), (3, 1, .int l3)] dX0_share_41 rfl (Nat.le_of_ble_eq_true rfl) rfl ?_
      refine J_ic 44 dX0_share_43 rfl (0 : Int32) kic_0 ?_
      refine J_istore (i := 5) 46 [(5, 1, .int (0 : Int32)), (4, 1, .int (-1 : Int32)), (0, 1, va_rf l0), (1, 1, .int l1), (2, 1, .int l2), (3, 1, .int l3)] dX0_share_44 rfl (Nat.le_of_ble_eq_true rfl) rfl ?_
      refine J.pick [2, 3, 4, 5, 1, 0] rfl ?_
      refine jX0_share_c46 hγ l0 l1 l2 l3 (fun x2 τ3 h => ?_) FUEL (-1 : Int32) (0 : Int32) σ h
      · refine J_aload_n (i := 0) 0 152 dX0_share_151 rfl rfl rfl ?_
        obtain ⟨v4, hv4, h⟩ := some_of_bind h
        refine J_gR 155 dX0_share_152 rfl fk_z_308 hv4 ?_
        refine J_iload (i := 4) 4 157 dX0_share_155 rfl rfl ?_
        refine J_dup2ir 158 dX0_share_157 rfl ?_
        obtain ⟨v5, hv5, h⟩ := some_of_bind h
        refine J_iald 159 dX0_share_158 rfl hv5 ?_
        refine J_ic 160 dX0_share_159 rfl (1 : Int32) kic_1 ?_
        refine J_iadd 161 dX0_share_160 rfl ?_
        obtain ⟨σ6, hσ6, h⟩ := some_of_bind h
        refine J_iast 162 dX0_share_161 rfl hσ6 ?_
        refine J_iinc (i := 3) (v := l3 + (1 : Int32)) 3 165 [(3, 1, .int (l3 + (1 : Int32))), (0, 1, va_rf l0), (1, 1, .int l1), (2, 1, .int l2), (4, 1, .int x2)] dX0_share_162 rfl rfl (Nat.le_of_ble_eq_true rfl) (by rw [kic_1]) rfl ?_
        refine J_goto 35 dX0_share_165 (by decide) ?_
        refine J.pick [1, 2, 3, 0] rfl ?_
        exact ih (l3 + (1 : Int32)) σ6 h
def X0_share (l0 : Option Nat) (l1 : Int32) (l2 : Int32) (σ : Hp) : Option (Int32 × Hp) :=
  (X0_in l1.toInt64 (0 : Int64) (48 : Int64) σ).bind fun q1 =>
  if q1.1 = 0 then
    some ((-1 : Int32), q1.2)
  else
    (X0_isTenant l2 q1.2).bind fun q3 =>
    if q3.1 = 0 then
      some ((-1 : Int32), q3.2)
    else
      (cT q3.2 l0 0).bind fun b6 =>
      (X0_layFalls l0  q3.2).bind fun q5 =>
      (gR q5 l0 [0] 20).bind fun v7 =>
      (J6_fill_2 v7 (0 : Int32) q5).bind fun q8 =>
      X0_share_c35 l0 l1 l2 (fun τ9 =>
        (gR τ9 l0 [0] 20).bind fun v10 =>
        (aI 0 τ9 v10 l2).bind fun v11 =>
        some (v11, τ9)) FUEL (0 : Int32) q8
set_option maxHeartbeats 4000000 in
theorem sX0_share {γ : GP} (hγ : GOK γ) (l0 : Option Nat) (l1 : Int32) (l2 : Int32) (σ : Hp) (q : (Int32 × Hp)) (h : X0_share l0 l1 l2 σ = some q) : Rn γ mX0_share yX0_share [va_rf l0, .int l1, .int l2] (σ, .inr (some (.int q.1)), q.2) := by
  refine J_m hγ ykX0_share rfl [(1, va_rf l0), (1, .int l1), (1, .int l2)] (cats_r (cats_i (cats_i cats_nil))) (Nat.le_of_ble_eq_true rfl) ?_
  show J γ mX0_share _ σ 0 [(0, 1, va_rf l0), (1, 1, .int l1), (2, 1, .int l2)] []
  unfold X0_share at h
  refine J_iload_n (i := 1) 1 1 dX0_share_0 rfl rfl rfl ?_
  refine J_i2l 2 dX0_share_1 rfl ?_
  refine J_lconst 3 dX0_share_2 rfl (0 : Int64) rfl ?_
  refine J_ldc2 (v := (48 : Int64)) 6 dX0_share_3 rfl q1825 ?_
  obtain ⟨q1, hq1, h⟩ := some_of_bind h
  refine J_cSi 9 dX0_share_6 rfl ykX0_in (Or.inl q484) q485 (Nat.le_of_ble_eq_true rfl) cs_nil (by decide) [.long l1.toInt64, .long (0 : Int64), .long (48 : Int64)] rfl rfl (sX0_in hγ l1.toInt64 (0 : Int64) (48 : Int64) σ q1 hq1) ?_
  refine J_if_eq 19 12 dX0_share_9 (by decide) rfl (fun c2 => ?_) (fun c2 => ?_)
  · rw [if_pos c2] at h
    refine J_ic 20 dX0_share_19 rfl (-1 : Int32) kic_m1 ?_
    exact J_iret rfl dX0_share_20 (retI h)
  · rw [if_neg c2] at h
    refine J_iload_n (i := 2) 2 13 dX0_share_12 rfl rfl rfl ?_
    obtain ⟨q3, hq3, h⟩ := some_of_bind h
    refine J_cSi 16 dX0_share_13 rfl ykX0_isTenant (Or.inl q491) q492 (Nat.le_of_ble_eq_true rfl) cs_nil (by decide) [.int l2] rfl rfl (sX0_isTenant hγ l2 q1.2 q3 hq3) ?_
    refine J_if_ne 21 19 dX0_share_16 (by decide) rfl (fun c4 => ?_) (fun c4 => ?_)
    · rw [if_neg c4] at h
      refine J_aload_n (i := 0) 0 22 dX0_share_21 rfl rfl rfl ?_
      obtain ⟨b6, hb6, h⟩ := some_of_bind h
      obtain ⟨q5, hq5, h⟩ := some_of_bind h
      refine J_cVv 25 dX0_share_22 rfl ykX0_layFalls (Or.inl q1826) q1828 qs30 (Nat.le_of_ble_eq_true rfl) cs_nil (by decide) [] hb6 (by decide) rfl rfl rfl (sX0_layFalls hγ l0  q3.2 q5 hq5) ?_
      refine J_aload_n (i := 0) 0 26 dX0_share_25 rfl rfl rfl ?_
      obtain ⟨v7, hv7, h⟩ := some_of_bind h
      refine J_gR 29 dX0_share_26 rfl fk_z_308 hv7 ?_
      refine J_ic 30 dX0_share_29 rfl (0 : Int32) kic_0 ?_
      obtain ⟨q8, hq8, h⟩ := some_of_bind h
      refine J_cSv 33 dX0_share_30 rfl ykJ6_fill_2 (Or.inl q1830) q1831 (Nat.le_of_ble_eq_true rfl) cs_nil (by decide) [va_rf v7, .int (0 : Int32)] rfl rfl (sJ6_fill_2 hγ v7 (0 : Int32) q5 q8 hq8) ?_
      refine J_ic 34 dX0_share_33 rfl (0 : Int32) kic_0 ?_
      refine J_istore_n (i := 3) 35 [(3, 1, .int (0 : Int32)), (0, 1, va_rf l0), (1, 1, .int l1), (2, 1, .int l2)] dX0_share_34 rfl rfl (Nat.le_of_ble_eq_true rfl) rfl ?_
      refine J.pick [1, 2, 3, 0] rfl ?_
      refine jX0_share_c35 hγ l0 l1 l2 (fun τ9 h => ?_) FUEL (0 : Int32) q8 h
      · refine J_aload_n (i := 0) 0 169 dX0_share_168 rfl rfl rfl ?_
        obtain ⟨v10, hv10, h⟩ := some_of_bind h
        refine J_gR 172 dX0_share_169 rfl fk_z_308 hv10 ?_
        refine J_iload_n (i := 2) 1 173 dX0_share_172 rfl rfl rfl ?_
        obtain ⟨v11, hv11, h⟩ := some_of_bind h
        refine J_iald 174 dX0_share_173 rfl hv11 ?_
        exact J_iret rfl dX0_share_174 (retI h)
    · rw [if_pos c4] at h
      refine J_ic 20 dX0_share_19 rfl (-1 : Int32) kic_m1 ?_
      exact J_iret rfl dX0_share_20 (retI h)
abbrev mX0_spilt : MP := (cX0_spilt, "MissCurves", 7, (Option.some FieldType.int), 4, "spilt", [])
theorem ykX0_spilt : YK yX0_spilt mX0_spilt 1 := ⟨q2012, q128, ⟨by decide, by decide⟩, by decide +kernel, Nat.le_of_ble_eq_true rfl, by decide, rfl, rfl⟩
def X0_spilt_c81 (l2 : Option Nat) (l3 : Option Nat) (l4 : Option Nat) (l5 : Int32) (k104 : Hp → Option (Int32 × Hp)) : Nat → Int32 → Hp → Option (Int32 × Hp)
  | 0, _, _ => none
  | n + 1, l6, σ =>
    if (24 : Int32) ≤ l6 then
      k104  σ
    else
      (aR 12 σ l4 l6).bind fun v2 =>
      (cT σ v2 24).bind fun b4 =>
      (X24_read v2 l3 σ).bind fun q3 =>
      X0_spilt_c81 l2 l3 l4 l5 k104 n (l6 + (1 : Int32)) q3.2
set_option maxHeartbeats 4000000 in
theorem jX0_spilt_c81 {γ : GP} {σ0 : Hp} {q : (Int32 × Hp)} (hγ : GOK γ) (l2 : Option Nat) (l3 : Option Nat) (l4 : Option Nat) (l5 : Int32) {k104 : Hp → Option (Int32 × Hp)} (hk104 : ∀  (σ : Hp), k104  σ = some q → J γ mX0_spilt (σ0, .inr (some (.int q.1)), q.2) σ 104 [(2, 1, va_rf l2), (3, 1, va_rf l3), (4, 1, va_rf l4), (5, 1, .int l5)] []) : ∀ (n : Nat) (l6 : Int32) (σ : Hp), X0_spilt_c81 l2 l3 l4 l5 k104 n l6 σ = some q → J γ mX0_spilt (σ0, .inr (some (.int q.1)), q.2) σ 81 [(2, 1, va_rf l2), (3, 1, va_rf l3), (4, 1, va_rf l4), (5, 1, .int l5), (6, 1, .int l6)] [] := by
  intro n
  induction n with
  | zero => intro l6 σ h; exact nomatch (show none = some q from h)
  | succ n ih =>
    intro l6 σ h
    rw [X0_spilt_c81] at h
    refine J_iload (i := 6) 4 83 dX0_spilt_81 rfl rfl ?_
    refine J_bipush 85 dX0_spilt_83 rfl (24 : Int32) kbp_24 ?_
    refine J_icmp_ge 104 88 dX0_spilt_85 (by decide) rfl (fun c1 => ?_) (fun c1 => ?_)
    · rw [if_pos c1] at h
      refine J.pick [0, 1, 2, 3] rfl ?_
      exact hk104  σ h
    · rw [if_neg c1] at h
      refine J_aload (i := 4) 2 90 dX0_spilt_88 rfl rfl ?_
      refine J_iload (i := 6) 4 92 dX0_spilt_90 rfl rfl ?_
      obtain ⟨v2, hv2, h⟩ := some_of_bind h
      refine J_aald 12 (by decide) (by decide) rfl 93 dX0_spilt_92 rfl hv2 ?_
      refine J_aload_n (i := 3) 1 94 dX0_spilt_93 rfl rfl rfl ?_
      obtain ⟨b4, hb4, h⟩ := some_of_bind h
      obtain ⟨q3, hq3, h⟩ := some_of_bind h
      refine J_cVi 97 dX0_spilt_94 rfl ykX24_read (Or.inl q1923) q1924 q1925 (Nat.le_of_ble_eq_true rfl) cs_nil (by decide) [va_rf l3] hb4 (by decide) rfl rfl rfl (sX24_read hγ v2 l3 σ q3 hq3) ?_
      refine J_popi 98 dX0_spilt_97 rfl ?_
      refine J_iinc (i := 6) (v := l6 + (1 : Int32)) 4 101 [(6, 1, .int (l6 + (1 : Int32))), (2, 1, va_rf l2), (3, 1, va_rf l3), (4, 1, va_rf l4), (5, 1, .int l5)] dX0_spilt_98 rfl rfl (Nat.le_of_ble_eq_true rfl) (by rw [kic_1]) rfl ?_
      refine J_goto 81 dX0_spilt_101 (by decide) ?_
      refine J.pick [1, 2, 3, 4, 0] rfl ?_
      exact ih (l6 + (1 : Int32)) q3.2 h
def X0_spilt_c36 (l2 : Option Nat) (l3 : Option Nat) (l4 : Option Nat) (k66 : Hp → Option (Int32 × Hp)) : Nat → Int32 → Hp → Option (Int32 × Hp)
  | 0, _, _ => none
  | n + 1, l5, σ =>
    if (24 : Int32) ≤ l5 then
      k66  σ
    else
      (some (hsz σ)).bind fun b3 =>
      (X24_init (some (hsz σ)) l2 (l5 + (1 : Int32)) (wN σ 24 0 7)).bind fun q2 =>
      (sR 12 q2 l4 l5 (some (hsz σ))).bind fun σ4 =>
      X0_spilt_c36 l2 l3 l4 k66 n (l5 + (1 : Int32)) σ4
set_option maxHeartbeats 4000000 in
theorem jX0_spilt_c36 {γ : GP} {σ0 : Hp} {q : (Int32 × Hp)} (hγ : GOK γ) (l2 : Option Nat) (l3 : Option Nat) (l4 : Option Nat) {k66 : Hp → Option (Int32 × Hp)} (hk66 : ∀  (σ : Hp), k66  σ = some q → J γ mX0_spilt (σ0, .inr (some (.int q.1)), q.2) σ 66 [(2, 1, va_rf l2), (3, 1, va_rf l3), (4, 1, va_rf l4)] []) : ∀ (n : Nat) (l5 : Int32) (σ : Hp), X0_spilt_c36 l2 l3 l4 k66 n l5 σ = some q → J γ mX0_spilt (σ0, .inr (some (.int q.1)), q.2) σ 36 [(2, 1, va_rf l2), (3, 1, va_rf l3), (4, 1, va_rf l4), (5, 1, .int l5)] [] := by
  intro n
  induction n with
  | zero => intro l5 σ h; exact nomatch (show none = some q from h)
  | succ n ih =>
    intro l5 σ h
    rw [X0_spilt_c36] at h
    refine J_iload (i := 5) 3 38 dX0_spilt_36 rfl rfl ?_
    refine J_bipush 40 dX0_spilt_38 rfl (24 : Int32) kbp_24 ?_
    refine J_icmp_ge 66 43 dX0_spilt_40 (by decide) rfl (fun c1 => ?_) (fun c1 => ?_)
    · rw [if_pos c1] at h
      refine J.pick [0, 1, 2] rfl ?_
      exact hk66  σ h
    · rw [if_neg c1] at h
      refine J_aload (i := 4) 2 45 dX0_spilt_43 rfl rfl ?_
      refine J_iload (i := 5) 3 47 dX0_spilt_45 rfl rfl ?_
      refine J_new (c9 := 24) (nsl := 7) rfl (by decide) (by decide +kernel) q1850 q1851 q173 50 dX0_spilt_47 rfl ?_
      refine J_dupr 51 dX0_spilt_50 rfl ?_
      refine J_aload_n (i := 2) 0 52 dX0_spilt_51 rfl rfl rfl ?_
      refine J_iload (i := 5) 3 54 dX0_spilt_52 rfl rfl ?_
      refine J_ic 55 dX0_spilt_54 rfl (1 : Int32) kic_1 ?_
      refine J_iadd 56 dX0_spilt_55 rfl ?_
      obtain ⟨b3, hb3, h⟩ := some_of_bind h
      obtain ⟨q2, hq2, h⟩ := some_of_bind h
      refine J_cI 59 dX0_spilt_56 rfl ykX24_init rfl (Or.inl q1852) q1853 rfl (Nat.le_of_ble_eq_true rfl) (cs_rf (cs_int (cs_rf cs_nil))) (by decide) [va_rf l2, .int (l5 + (1 : Int32))] hb3 rfl rfl (sX24_init hγ (some (hsz σ)) l2 (l5 + (1 : Int32)) (wN σ 24 0 7) q2 hq2) ?_
      obtain ⟨σ4, hσ4, h⟩ := some_of_bind h
      refine J_aast 12 (by decide) (by decide) 60 dX0_spilt_59 rfl hσ4 ?_
      refine J_iinc (i := 5) (v := l5 + (1 : Int32)) 3 63 [(5, 1, .int (l5 + (1 : Int32))), (2, 1, va_rf l2), (3, 1, va_rf l3), (4, 1, va_rf l4)] dX0_spilt_60 rfl rfl (Nat.le_of_ble_eq_true rfl) (by rw [kic_1]) rfl ?_
      refine J_goto 36 dX0_spilt_63 (by decide) ?_
      refine J.pick [1, 2, 3, 0] rfl ?_
      exact ih (l5 + (1 : Int32)) σ4 h
def X0_spilt_c107 (l2 : Option Nat) (l3 : Option Nat) (l4 : Option Nat) (l5 : Int32) (k143 : Hp → Option (Int32 × Hp)) : Nat → Int32 → Hp → Option (Int32 × Hp)
  | 0, _, _ => none
  | n + 1, l6, σ =>
    if (24 : Int32) ≤ (l6 + (1 : Int32)) then
      k143  σ
    else
      (aR 12 σ l4 l6).bind fun v2 =>
      (aR 12 σ l4 (l6 + (1 : Int32))).bind fun v3 =>
      (cT σ v2 24).bind fun b5 =>
      (X24_isWithin v2 v3 σ).bind fun q4 =>
      if q4.1 = 0 then
        some (l5, q4.2)
      else
        X0_spilt_c107 l2 l3 l4 l5 k143 n (l6 + (1 : Int32)) q4.2
set_option maxHeartbeats 4000000 in
theorem jX0_spilt_c107 {γ : GP} {σ0 : Hp} {q : (Int32 × Hp)} (hγ : GOK γ) (l2 : Option Nat) (l3 : Option Nat) (l4 : Option Nat) (l5 : Int32) {k143 : Hp → Option (Int32 × Hp)} (hk143 : ∀  (σ : Hp), k143  σ = some q → J γ mX0_spilt (σ0, .inr (some (.int q.1)), q.2) σ 143 [(2, 1, va_rf l2), (3, 1, va_rf l3), (4, 1, va_rf l4), (5, 1, .int l5)] []) : ∀ (n : Nat) (l6 : Int32) (σ : Hp), X0_spilt_c107 l2 l3 l4 l5 k143 n l6 σ = some q → J γ mX0_spilt (σ0, .inr (some (.int q.1)), q.2) σ 107 [(2, 1, va_rf l2), (3, 1, va_rf l3), (4, 1, va_rf l4), (5, 1, .int l5), (6, 1, .int l6)] [] := by
  intro n
  induction n with
  | zero => intro l6 σ h; exact nomatch (show none = some q from h)
  | succ n ih =>
    intro l6 σ h
    rw [X0_spilt_c107] at h
    refine J_iload (i := 6) 4 109 dX0_spilt_107 rfl rfl ?_
    refine J_ic 110 dX0_spilt_109 rfl (1 : Int32) kic_1 ?_
    refine J_iadd 111 dX0_spilt_110 rfl ?_
    refine J_bipush 113 dX0_spilt_111 rfl (24 : Int32) kbp_24 ?_
    refine J_icmp_ge 143 116 dX0_spilt_113 (by decide) rfl (fun c1 => ?_) (fun c1 => ?_)
    · rw [if_pos c1] at h
      refine J.pick [0, 1, 2, 3] rfl ?_
      exact hk143  σ h
    · rw [if_neg c1] at h
      refine J_aload (i := 4) 2 118 dX0_spilt_116 rfl rfl ?_
      refine J_iload (i := 6) 4 120 dX0_spilt_118 rfl rfl ?_
      obtain ⟨v2, hv2, h⟩ := some_of_bind h
      refine J_aald 12 (by decide) (by decide) rfl 121 dX0_spilt_120 rfl hv2 ?_
      refine J_aload (i := 4) 2 123 dX0_spilt_121 rfl rfl ?_
      refine J_iload (i := 6) 4 125 dX0_spilt_123 rfl rfl ?_
      refine J_ic 126 dX0_spilt_125 rfl (1 : Int32) kic_1 ?_
      refine J_iadd 127 dX0_spilt_126 rfl ?_
      obtain ⟨v3, hv3, h⟩ := some_of_bind h
      refine J_aald 12 (by decide) (by decide) rfl 128 dX0_spilt_127 rfl hv3 ?_
      obtain ⟨b5, hb5, h⟩ := some_of_bind h
      obtain ⟨q4, hq4, h⟩ := some_of_bind h
      refine J_cVi 131 dX0_spilt_128 rfl ykX24_isWithin (Or.inl q2014) q2015 q2016 (Nat.le_of_ble_eq_true rfl) cs_nil (by decide) [va_rf v3] hb5 (by decide) rfl rfl rfl (sX24_isWithin hγ v2 v3 σ q4 hq4) ?_
      refine J_if_ne 137 134 dX0_spilt_131 (by decide) rfl (fun c6 => ?_) (fun c6 => ?_)
      · rw [if_neg c6] at h
        refine J_iinc (i := 6) (v := l6 + (1 : Int32)) 4 140 [(6, 1, .int (l6 + (1 : Int32))), (2, 1, va_rf l2), (3, 1, va_rf l3), (4, 1, va_rf l4), (5, 1, .int l5)] dX0_spilt_137 rfl rfl (Nat.le_of_ble_eq_true rfl) (by rw [kic_1]) rfl ?_
        refine J_goto 107 dX0_spilt_140 (by decide) ?_
        refine J.pick [1, 2, 3, 4, 0] rfl ?_
        exact ih (l6 + (1 : Int32)) q4.2 h
      · rw [if_pos c6] at h
        refine J_iload (i := 5) 3 136 dX0_spilt_134 rfl rfl ?_
        exact J_iret rfl dX0_spilt_136 (retI h)
def X0_spilt_c69 (l2 : Option Nat) (l3 : Option Nat) (l4 : Option Nat)  : Nat → Int32 → Hp → Option (Int32 × Hp)
  | 0, _, _ => none
  | n + 1, l5, σ =>
    (gI σ l2 [3] 7).bind fun v1 =>
    if v1 ≤ l5 then
      some ((-1 : Int32), σ)
    else
      X0_spilt_c81 l2 l3 l4 l5 (fun τ3 =>
        X0_spilt_c107 l2 l3 l4 l5 (fun τ4 =>
          X0_spilt_c69 l2 l3 l4 n (l5 + (1 : Int32)) τ4) FUEL (0 : Int32) τ3) FUEL (0 : Int32) σ
set_option maxHeartbeats 4000000 in
theorem jX0_spilt_c69 {γ : GP} {σ0 : Hp} {q : (Int32 × Hp)} (hγ : GOK γ) (l2 : Option Nat) (l3 : Option Nat) (l4 : Option Nat)  : ∀ (n : Nat) (l5 : Int32) (σ : Hp), X0_spilt_c69 l2 l3 l4 n l5 σ = some q → J γ mX0_spilt (σ0, .inr (some (.int q.1)), q.2) σ 69 [(2, 1, va_rf l2), (3, 1, va_rf l3), (4, 1, va_rf l4), (5, 1, .int l5)] [] := by
  intro n
  induction n with
  | zero => intro l5 σ h; exact nomatch (show none = some q from h)
  | succ n ih =>
    intro l5 σ h
    rw [X0_spilt_c69] at h
    refine J_iload (i := 5) 3 71 dX0_spilt_69 rfl rfl ?_
    refine J_aload_n (i := 2) 0 72 dX0_spilt_71 rfl rfl rfl ?_
    obtain ⟨v1, hv1, h⟩ := some_of_bind h
    refine J_gI 75 dX0_spilt_72 rfl fk_z_284 hv1 ?_
    refine J_icmp_ge 149 78 dX0_spilt_75 (by decide) rfl (fun c2 => ?_) (fun c2 => ?_)
    · rw [if_pos c2] at h
      refine J_ic 150 dX0_spilt_149 rfl (-1 : Int32) kic_m1 ?_
      exact J_iret rfl dX0_spilt_150 (retI h)
    · rw [if_neg c2] at h
      refine J_ic 79 dX0_spilt_78 rfl (0 : Int32) kic_0 ?_
      refine J_istore (i := 6) 81 [(6, 1, .int (0 : Int32)), (2, 1, va_rf l2), (3, 1, va_rf l3), (4, 1, va_rf l4), (5, 1, .int l5)] dX0_spilt_79 rfl (Nat.le_of_ble_eq_true rfl) rfl ?_
      refine J.pick [1, 2, 3, 4, 0] rfl ?_
      refine jX0_spilt_c81 hγ l2 l3 l4 l5 (fun τ3 h => ?_) FUEL (0 : Int32) σ h
      · refine J_ic 105 dX0_spilt_104 rfl (0 : Int32) kic_0 ?_
        refine J_istore (i := 6) 107 [(6, 1, .int (0 : Int32)), (2, 1, va_rf l2), (3, 1, va_rf l3), (4, 1, va_rf l4), (5, 1, .int l5)] dX0_spilt_105 rfl (Nat.le_of_ble_eq_true rfl) rfl ?_
        refine J.pick [1, 2, 3, 4, 0] rfl ?_
        refine jX0_spilt_c107 hγ l2 l3 l4 l5 (fun τ4 h => ?_) FUEL (0 : Int32) τ3 h
        · refine J_iinc (i := 5) (v := l5 + (1 : Int32)) 3 146 [(5, 1, .int (l5 + (1 : Int32))), (2, 1, va_rf l2), (3, 1, va_rf l3), (4, 1, va_rf l4)] dX0_spilt_143 rfl rfl (Nat.le_of_ble_eq_true rfl) (by rw [kic_1]) rfl ?_
          refine J_goto 69 dX0_spilt_146 (by decide) ?_
          refine J.pick [1, 2, 3, 0] rfl ?_
          exact ih (l5 + (1 : Int32)) τ4 h
def X0_spilt (l0 : Option Nat) (l1 : Int32) (σ : Hp) : Option (Int32 × Hp) :=
  (X0_isTenant l1 σ).bind fun q1 =>
  if q1.1 = 0 then
    some ((-1 : Int32), q1.2)
  else
    (cT q1.2 l0 0).bind fun b4 =>
    (X0_book l0 l1 q1.2).bind fun q3 =>
    (gR q3.2 l0 [0] 0).bind fun v5 =>
    (gI q3.2 v5 [1] 4).bind fun v6 =>
    (X8_of v6 q3.2).bind fun q7 =>
    (nA 12 q7.2 (24 : Int32)).bind fun σ8 =>
    X0_spilt_c36 q3.1 q7.1 (some (hsz q7.2)) (fun τ9 =>
      X0_spilt_c69 q3.1 q7.1 (some (hsz q7.2))  FUEL (0 : Int32) τ9) FUEL (0 : Int32) σ8
set_option maxHeartbeats 4000000 in
theorem sX0_spilt {γ : GP} (hγ : GOK γ) (l0 : Option Nat) (l1 : Int32) (σ : Hp) (q : (Int32 × Hp)) (h : X0_spilt l0 l1 σ = some q) : Rn γ mX0_spilt yX0_spilt [va_rf l0, .int l1] (σ, .inr (some (.int q.1)), q.2) := by
  refine J_m hγ ykX0_spilt rfl [(1, va_rf l0), (1, .int l1)] (cats_r (cats_i cats_nil)) (Nat.le_of_ble_eq_true rfl) ?_
  show J γ mX0_spilt _ σ 0 [(0, 1, va_rf l0), (1, 1, .int l1)] []
  unfold X0_spilt at h
  refine J_iload_n (i := 1) 1 1 dX0_spilt_0 rfl rfl rfl ?_
  obtain ⟨q1, hq1, h⟩ := some_of_bind h
  refine J_cSi 4 dX0_spilt_1 rfl ykX0_isTenant (Or.inl q491) q492 (Nat.le_of_ble_eq_true rfl) cs_nil (by decide) [.int l1] rfl rfl (sX0_isTenant hγ l1 σ q1 hq1) ?_
  refine J_if_ne 9 7 dX0_spilt_4 (by decide) rfl (fun c2 => ?_) (fun c2 => ?_)
  · rw [if_neg c2] at h
    refine J_aload_n (i := 0) 0 10 dX0_spilt_9 rfl rfl rfl ?_
    refine J_iload_n (i := 1) 1 11 dX0_spilt_10 rfl rfl rfl ?_
    obtain ⟨b4, hb4, h⟩ := some_of_bind h
    obtain ⟨q3, hq3, h⟩ := some_of_bind h
    refine J_cVr 14 dX0_spilt_11 rfl ykX0_book (Or.inl q495) q497 qs1 (Nat.le_of_ble_eq_true rfl) cs_nil (by decide) [.int l1] hb4 (by decide) rfl rfl rfl (sX0_book hγ l0 l1 q1.2 q3 hq3) ?_
    refine J_astore_n (i := 2) 15 [(2, 1, va_rf q3.1), (0, 1, va_rf l0), (1, 1, .int l1)] dX0_spilt_14 rfl rfl (Nat.le_of_ble_eq_true rfl) rfl ?_
    refine J_aload_n (i := 0) 1 16 dX0_spilt_15 rfl rfl rfl ?_
    obtain ⟨v5, hv5, h⟩ := some_of_bind h
    refine J_gR 19 dX0_spilt_16 rfl fk_x_133 hv5 ?_
    obtain ⟨v6, hv6, h⟩ := some_of_bind h
    refine J_gI 22 dX0_spilt_19 rfl fk_z_269 hv6 ?_
    obtain ⟨q7, hq7, h⟩ := some_of_bind h
    refine J_cSr 25 dX0_spilt_22 rfl ykX8_of (Or.inl q1885) q1886 (Nat.le_of_ble_eq_true rfl) cs_nil (by decide) [.int v6] rfl rfl (sX8_of hγ v6 q3.2 q7 hq7) ?_
    refine J_astore_n (i := 3) 26 [(3, 1, va_rf q7.1), (2, 1, va_rf q3.1), (0, 1, va_rf l0), (1, 1, .int l1)] dX0_spilt_25 rfl rfl (Nat.le_of_ble_eq_true rfl) rfl ?_
    refine J_bipush 28 dX0_spilt_26 rfl (24 : Int32) kbp_24 ?_
    obtain ⟨σ8, hσ8, h⟩ := some_of_bind h
    refine J_anew 12 (by decide) (by decide) rfl q1850 q2013 31 dX0_spilt_28 rfl hσ8 ?_
    refine J_astore (i := 4) 33 [(4, 1, va_rf (some (hsz q7.2))), (3, 1, va_rf q7.1), (2, 1, va_rf q3.1), (0, 1, va_rf l0), (1, 1, .int l1)] dX0_spilt_31 rfl (Nat.le_of_ble_eq_true rfl) rfl ?_
    refine J_ic 34 dX0_spilt_33 rfl (0 : Int32) kic_0 ?_
    refine J_istore (i := 5) 36 [(5, 1, .int (0 : Int32)), (4, 1, va_rf (some (hsz q7.2))), (3, 1, va_rf q7.1), (2, 1, va_rf q3.1), (0, 1, va_rf l0), (1, 1, .int l1)] dX0_spilt_34 rfl (Nat.le_of_ble_eq_true rfl) rfl ?_
    refine J.pick [3, 2, 1, 0] rfl ?_
    refine jX0_spilt_c36 hγ q3.1 q7.1 (some (hsz q7.2)) (fun τ9 h => ?_) FUEL (0 : Int32) σ8 h
    · refine J_ic 67 dX0_spilt_66 rfl (0 : Int32) kic_0 ?_
      refine J_istore (i := 5) 69 [(5, 1, .int (0 : Int32)), (2, 1, va_rf q3.1), (3, 1, va_rf q7.1), (4, 1, va_rf (some (hsz q7.2)))] dX0_spilt_67 rfl (Nat.le_of_ble_eq_true rfl) rfl ?_
      refine J.pick [1, 2, 3, 0] rfl ?_
      refine jX0_spilt_c69 hγ q3.1 q7.1 (some (hsz q7.2))  FUEL (0 : Int32) τ9 h
  · rw [if_pos c2] at h
    refine J_ic 8 dX0_spilt_7 rfl (-1 : Int32) kic_m1 ?_
    exact J_iret rfl dX0_spilt_8 (retI h)
abbrev mX0_status : MP := (cX0_status, "MissCurves", 1, (Option.some FieldType.int), 0, "status", [])
theorem ykX0_status : YK yX0_status mX0_status 0 := ⟨q2195, q128, ⟨by decide, by decide⟩, by decide +kernel, Nat.le_of_ble_eq_true rfl, by decide, rfl, rfl⟩
theorem fk_z_309 : FOK "MissCurves" 123 [0] 10 isI := FOK.one (by decide) rfl (Nat.le_of_ble_eq_true rfl) (Or.inl ⟨_, q391, Or.inl rfl⟩) rfl
def X0_status (l0 : Option Nat) (σ : Hp) : Option (Int32 × Hp) :=
  (gI σ l0 [0] 10).bind fun v1 =>
  some (v1, σ)
set_option maxHeartbeats 4000000 in
theorem sX0_status {γ : GP} (hγ : GOK γ) (l0 : Option Nat) (σ : Hp) (q : (Int32 × Hp)) (h : X0_status l0 σ = some q) : Rn γ mX0_status yX0_status [va_rf l0] (σ, .inr (some (.int q.1)), q.2) := by
  refine J_m hγ ykX0_status rfl [(1, va_rf l0)] (cats_r cats_nil) (Nat.le_of_ble_eq_true rfl) ?_
  show J γ mX0_status _ σ 0 [(0, 1, va_rf l0)] []
  unfold X0_status at h
  refine J_aload_n (i := 0) 0 1 dX0_status_0 rfl rfl rfl ?_
  obtain ⟨v1, hv1, h⟩ := some_of_bind h
  refine J_gI 4 dX0_status_1 rfl fk_z_309 hv1 ?_
  exact J_iret rfl dX0_status_4 (retI h)
abbrev mX0_stopped : MP := (cX0_stopped, "MissCurves", 1, (Option.some FieldType.int), 0, "stopped", [])
theorem ykX0_stopped : YK yX0_stopped mX0_stopped 0 := ⟨q2127, q128, ⟨by decide, by decide⟩, by decide +kernel, Nat.le_of_ble_eq_true rfl, by decide, rfl, rfl⟩
theorem fk_z_310 : FOK "MissCurves" 79 [0] 13 isI := FOK.one (by decide) rfl (Nat.le_of_ble_eq_true rfl) (Or.inl ⟨_, q394, Or.inl rfl⟩) rfl
def X0_stopped (l0 : Option Nat) (σ : Hp) : Option (Int32 × Hp) :=
  (gI σ l0 [0] 13).bind fun v1 =>
  some (v1, σ)
set_option maxHeartbeats 4000000 in
theorem sX0_stopped {γ : GP} (hγ : GOK γ) (l0 : Option Nat) (σ : Hp) (q : (Int32 × Hp)) (h : X0_stopped l0 σ = some q) : Rn γ mX0_stopped yX0_stopped [va_rf l0] (σ, .inr (some (.int q.1)), q.2) := by
  refine J_m hγ ykX0_stopped rfl [(1, va_rf l0)] (cats_r cats_nil) (Nat.le_of_ble_eq_true rfl) ?_
  show J γ mX0_stopped _ σ 0 [(0, 1, va_rf l0)] []
  unfold X0_stopped at h
  refine J_aload_n (i := 0) 0 1 dX0_stopped_0 rfl rfl rfl ?_
  obtain ⟨v1, hv1, h⟩ := some_of_bind h
  refine J_gI 4 dX0_stopped_1 rfl fk_z_310 hv1 ?_
  exact J_iret rfl dX0_stopped_4 (retI h)
abbrev mX0_terms : MP := (cX0_terms, "MissCurves", 8, (Option.some FieldType.int), 2, "terms", [])
theorem ykX0_terms : YK yX0_terms mX0_terms 2 := ⟨q624, q128, ⟨by decide, by decide⟩, by decide +kernel, Nat.le_of_ble_eq_true rfl, by decide, rfl, rfl⟩
def X0_terms_c67 (l0 : Option Nat) (l3 : Int32) (l4 : Option Nat) (l5 : Int32) (k92 : Hp → Option (Int32 × Hp)) : Nat → Int32 → Hp → Option (Int32 × Hp)
  | 0, _, _ => none
  | n + 1, l6, σ =>
    if l5 ≤ l6 then
      k92  σ
    else
      (aR 7 σ l4 l6).bind fun v2 =>
      (cT σ v2 3).bind fun b4 =>
      (X3_forgetSample v2  σ).bind fun q3 =>
      X0_terms_c67 l0 l3 l4 l5 k92 n (l6 + (1 : Int32)) q3
set_option maxHeartbeats 4000000 in
theorem jX0_terms_c67 {γ : GP} {σ0 : Hp} {q : (Int32 × Hp)} (hγ : GOK γ) (l0 : Option Nat) (l3 : Int32) (l4 : Option Nat) (l5 : Int32) {k92 : Hp → Option (Int32 × Hp)} (hk92 : ∀  (σ : Hp), k92  σ = some q → J γ mX0_terms (σ0, .inr (some (.int q.1)), q.2) σ 92 [(0, 1, va_rf l0), (3, 1, .int l3)] []) : ∀ (n : Nat) (l6 : Int32) (σ : Hp), X0_terms_c67 l0 l3 l4 l5 k92 n l6 σ = some q → J γ mX0_terms (σ0, .inr (some (.int q.1)), q.2) σ 67 [(0, 1, va_rf l0), (3, 1, .int l3), (4, 1, va_rf l4), (5, 1, .int l5), (6, 1, .int l6)] [] := by
  intro n
  induction n with
  | zero => intro l6 σ h; exact nomatch (show none = some q from h)
  | succ n ih =>
    intro l6 σ h
    rw [X0_terms_c67] at h
    refine J_iload (i := 6) 4 69 dX0_terms_67 rfl rfl ?_
    refine J_iload (i := 5) 3 71 dX0_terms_69 rfl rfl ?_
    refine J_icmp_ge 92 74 dX0_terms_71 (by decide) rfl (fun c1 => ?_) (fun c1 => ?_)
    · rw [if_pos c1] at h
      refine J.pick [0, 1] rfl ?_
      exact hk92  σ h
    · rw [if_neg c1] at h
      refine J_aload (i := 4) 2 76 dX0_terms_74 rfl rfl ?_
      refine J_iload (i := 6) 4 78 dX0_terms_76 rfl rfl ?_
      obtain ⟨v2, hv2, h⟩ := some_of_bind h
      refine J_aald 7 (by decide) (by decide) rfl 79 dX0_terms_78 rfl hv2 ?_
      refine J_astore (i := 7) 81 [(7, 1, va_rf v2), (0, 1, va_rf l0), (3, 1, .int l3), (4, 1, va_rf l4), (5, 1, .int l5), (6, 1, .int l6)] dX0_terms_79 rfl (Nat.le_of_ble_eq_true rfl) rfl ?_
      refine J_aload (i := 7) 0 83 dX0_terms_81 rfl rfl ?_
      obtain ⟨b4, hb4, h⟩ := some_of_bind h
      obtain ⟨q3, hq3, h⟩ := some_of_bind h
      refine J_cVv 86 dX0_terms_83 rfl ykX3_forgetSample (Or.inl q641) q642 q643 (Nat.le_of_ble_eq_true rfl) cs_nil (by decide) [] hb4 (by decide) rfl rfl rfl (sX3_forgetSample hγ v2  σ q3 hq3) ?_
      refine J_iinc (i := 6) (v := l6 + (1 : Int32)) 5 89 [(6, 1, .int (l6 + (1 : Int32))), (7, 1, va_rf v2), (0, 1, va_rf l0), (3, 1, .int l3), (4, 1, va_rf l4), (5, 1, .int l5)] dX0_terms_86 rfl rfl (Nat.le_of_ble_eq_true rfl) (by rw [kic_1]) rfl ?_
      refine J_goto 67 dX0_terms_89 (by decide) ?_
      refine J.pick [2, 3, 4, 5, 0] rfl ?_
      exact ih (l6 + (1 : Int32)) q3 h
def X0_terms_c92  (l0 : Option Nat) (l3 : Int32)  (σ : Hp) : Option (Int32 × Hp) :=
  (gR σ l0 [0] 2).bind fun v1 =>
  (pI σ v1 [4] 1 (0 : Int32)).bind fun σ2 =>
  (cT σ2 l0 0).bind fun b4 =>
  (X0_had l0 l3 σ2).bind fun q3 =>
  some (q3.1, q3.2)
set_option maxHeartbeats 4000000 in
theorem jX0_terms_c92 {γ : GP} {σ0 : Hp} {q : (Int32 × Hp)} (hγ : GOK γ) (l0 : Option Nat) (l3 : Int32)   (σ : Hp) (h : X0_terms_c92 l0 l3 σ = some q) : J γ mX0_terms (σ0, .inr (some (.int q.1)), q.2) σ 92 [(0, 1, va_rf l0), (3, 1, .int l3)] [] := by
  unfold X0_terms_c92 at h
  refine J_aload_n (i := 0) 0 93 dX0_terms_92 rfl rfl rfl ?_
  obtain ⟨v1, hv1, h⟩ := some_of_bind h
  refine J_gR 96 dX0_terms_93 rfl fk_z_253 hv1 ?_
  refine J_ic 97 dX0_terms_96 rfl (0 : Int32) kic_0 ?_
  obtain ⟨σ2, hσ2, h⟩ := some_of_bind h
  refine J_pI 100 dX0_terms_97 rfl pk_z_254 hσ2 ?_
  refine J_aload_n (i := 0) 0 101 dX0_terms_100 rfl rfl rfl ?_
  refine J_iload_n (i := 3) 1 102 dX0_terms_101 rfl rfl rfl ?_
  obtain ⟨b4, hb4, h⟩ := some_of_bind h
  obtain ⟨q3, hq3, h⟩ := some_of_bind h
  refine J_cVi 105 dX0_terms_102 rfl ykX0_had (Or.inl q648) q650 qs9 (Nat.le_of_ble_eq_true rfl) cs_nil (by decide) [.int l3] hb4 (by decide) rfl rfl rfl (sX0_had hγ l0 l3 σ2 q3 hq3) ?_
  exact J_iret rfl dX0_terms_105 (retI h)
def X0_terms_c45  (l0 : Option Nat) (l1 : Int32) (l3 : Int32)  (σ : Hp) : Option (Int32 × Hp) :=
  if l1 = (3 : Int32) then
    (cT σ l0 0).bind fun b3 =>
    (X0_books l0  σ).bind fun q2 =>
    (gR q2.2 q2.1 [2] 0).bind fun v4 =>
    (aN q2.2 v4).bind fun v5 =>
    X0_terms_c67 l0 l3 v4 v5 (fun τ6 =>
      X0_terms_c92  l0 l3  τ6) FUEL (0 : Int32) q2.2
  else
    X0_terms_c92  l0 l3  σ
set_option maxHeartbeats 4000000 in
theorem jX0_terms_c45 {γ : GP} {σ0 : Hp} {q : (Int32 × Hp)} (hγ : GOK γ) (l0 : Option Nat) (l1 : Int32) (l3 : Int32)   (σ : Hp) (h : X0_terms_c45 l0 l1 l3 σ = some q) : J γ mX0_terms (σ0, .inr (some (.int q.1)), q.2) σ 45 [(0, 1, va_rf l0), (1, 1, .int l1), (3, 1, .int l3)] [] := by
  unfold X0_terms_c45 at h
  refine J_iload_n (i := 1) 1 46 dX0_terms_45 rfl rfl rfl ?_
  refine J_ic 47 dX0_terms_46 rfl (3 : Int32) kic_3 ?_
  refine J_icmp_ne 92 50 dX0_terms_47 (by decide) rfl (fun c1 => ?_) (fun c1 => ?_)
  · rw [if_neg c1] at h
    refine J.pick [0, 2] rfl ?_
    exact jX0_terms_c92 hγ l0 l3  σ h
  · rw [if_pos c1] at h
    refine J_aload_n (i := 0) 0 51 dX0_terms_50 rfl rfl rfl ?_
    obtain ⟨b3, hb3, h⟩ := some_of_bind h
    obtain ⟨q2, hq2, h⟩ := some_of_bind h
    refine J_cVr 54 dX0_terms_51 rfl ykX0_books (Or.inl q499) q501 qs2 (Nat.le_of_ble_eq_true rfl) cs_nil (by decide) [] hb3 (by decide) rfl rfl rfl (sX0_books hγ l0  σ q2 hq2) ?_
    obtain ⟨v4, hv4, h⟩ := some_of_bind h
    refine J_gR 57 dX0_terms_54 rfl fk_x_135 hv4 ?_
    refine J_astore (i := 4) 59 [(4, 1, va_rf v4), (0, 1, va_rf l0), (1, 1, .int l1), (3, 1, .int l3)] dX0_terms_57 rfl (Nat.le_of_ble_eq_true rfl) rfl ?_
    refine J_aload (i := 4) 0 61 dX0_terms_59 rfl rfl ?_
    obtain ⟨v5, hv5, h⟩ := some_of_bind h
    refine J_alen 62 dX0_terms_61 rfl hv5 ?_
    refine J_istore (i := 5) 64 [(5, 1, .int v5), (4, 1, va_rf v4), (0, 1, va_rf l0), (1, 1, .int l1), (3, 1, .int l3)] dX0_terms_62 rfl (Nat.le_of_ble_eq_true rfl) rfl ?_
    refine J_ic 65 dX0_terms_64 rfl (0 : Int32) kic_0 ?_
    refine J_istore (i := 6) 67 [(6, 1, .int (0 : Int32)), (5, 1, .int v5), (4, 1, va_rf v4), (0, 1, va_rf l0), (1, 1, .int l1), (3, 1, .int l3)] dX0_terms_65 rfl (Nat.le_of_ble_eq_true rfl) rfl ?_
    refine J.pick [3, 5, 2, 1, 0] rfl ?_
    refine jX0_terms_c67 hγ l0 l3 v4 v5 (fun τ6 h => ?_) FUEL (0 : Int32) q2.2 h
    · exact jX0_terms_c92 hγ l0 l3  τ6 h
def X0_terms (l0 : Option Nat) (l1 : Int32) (l2 : Int32) (σ : Hp) : Option (Int32 × Hp) :=
  (X0_isTerm l1 l2 σ).bind fun q1 =>
  if q1.1 = 0 then
    (cT q1.2 l0 0).bind fun b13 =>
    (X0_tell l0 (-1 : Int32) q1.2).bind fun q12 =>
    some (q12.1, q12.2)
  else
    (cT q1.2 l0 0).bind fun b4 =>
    (X0_term l0 l1 q1.2).bind fun q3 =>
    if l1 = 0 then
      (cT q3.2 l0 0).bind fun b10 =>
      (X0_books l0  q3.2).bind fun q9 =>
      (pI q9.2 q9.1 [2] 1 l2).bind fun σ11 =>
      X0_terms_c45  l0 l1 q3.1  σ11
    else
      (gR q3.2 l0 [0] 0).bind fun v6 =>
      (gR q3.2 v6 [1] 1).bind fun v7 =>
      (sI 0 q3.2 v7 l1 l2).bind fun σ8 =>
      X0_terms_c45  l0 l1 q3.1  σ8
set_option maxHeartbeats 4000000 in
theorem sX0_terms {γ : GP} (hγ : GOK γ) (l0 : Option Nat) (l1 : Int32) (l2 : Int32) (σ : Hp) (q : (Int32 × Hp)) (h : X0_terms l0 l1 l2 σ = some q) : Rn γ mX0_terms yX0_terms [va_rf l0, .int l1, .int l2] (σ, .inr (some (.int q.1)), q.2) := by
  refine J_m hγ ykX0_terms rfl [(1, va_rf l0), (1, .int l1), (1, .int l2)] (cats_r (cats_i (cats_i cats_nil))) (Nat.le_of_ble_eq_true rfl) ?_
  show J γ mX0_terms _ σ 0 [(0, 1, va_rf l0), (1, 1, .int l1), (2, 1, .int l2)] []
  unfold X0_terms at h
  refine J_iload_n (i := 1) 1 1 dX0_terms_0 rfl rfl rfl ?_
  refine J_iload_n (i := 2) 2 2 dX0_terms_1 rfl rfl rfl ?_
  obtain ⟨q1, hq1, h⟩ := some_of_bind h
  refine J_cSi 5 dX0_terms_2 rfl ykX0_isTerm (Or.inl q625) q626 (Nat.le_of_ble_eq_true rfl) cs_nil (by decide) [.int l1, .int l2] rfl rfl (sX0_isTerm hγ l1 l2 σ q1 hq1) ?_
  refine J_if_ne 14 8 dX0_terms_5 (by decide) rfl (fun c2 => ?_) (fun c2 => ?_)
  · rw [if_neg c2] at h
    refine J_aload_n (i := 0) 0 15 dX0_terms_14 rfl rfl rfl ?_
    refine J_iload_n (i := 1) 1 16 dX0_terms_15 rfl rfl rfl ?_
    obtain ⟨b4, hb4, h⟩ := some_of_bind h
    obtain ⟨q3, hq3, h⟩ := some_of_bind h
    refine J_cVi 19 dX0_terms_16 rfl ykX0_term (Or.inl q637) q639 qs8 (Nat.le_of_ble_eq_true rfl) cs_nil (by decide) [.int l1] hb4 (by decide) rfl rfl rfl (sX0_term hγ l0 l1 q1.2 q3 hq3) ?_
    refine J_istore_n (i := 3) 20 [(3, 1, .int q3.1), (0, 1, va_rf l0), (1, 1, .int l1), (2, 1, .int l2)] dX0_terms_19 rfl rfl (Nat.le_of_ble_eq_true rfl) rfl ?_
    refine J_iload_n (i := 1) 2 21 dX0_terms_20 rfl rfl rfl ?_
    refine J_if_ne 35 24 dX0_terms_21 (by decide) rfl (fun c5 => ?_) (fun c5 => ?_)
    · rw [if_neg c5] at h
      refine J_aload_n (i := 0) 1 36 dX0_terms_35 rfl rfl rfl ?_
      obtain ⟨v6, hv6, h⟩ := some_of_bind h
      refine J_gR 39 dX0_terms_36 rfl fk_x_133 hv6 ?_
      obtain ⟨v7, hv7, h⟩ := some_of_bind h
      refine J_gR 42 dX0_terms_39 rfl fk_z_233 hv7 ?_
      refine J_iload_n (i := 1) 2 43 dX0_terms_42 rfl rfl rfl ?_
      refine J_iload_n (i := 2) 3 44 dX0_terms_43 rfl rfl rfl ?_
      obtain ⟨σ8, hσ8, h⟩ := some_of_bind h
      refine J_iast 45 dX0_terms_44 rfl hσ8 ?_
      refine J.pick [1, 2, 0] rfl ?_
      exact jX0_terms_c45 hγ l0 l1 q3.1  σ8 h
    · rw [if_pos c5] at h
      refine J_aload_n (i := 0) 1 25 dX0_terms_24 rfl rfl rfl ?_
      obtain ⟨b10, hb10, h⟩ := some_of_bind h
      obtain ⟨q9, hq9, h⟩ := some_of_bind h
      refine J_cVr 28 dX0_terms_25 rfl ykX0_books (Or.inl q499) q501 qs2 (Nat.le_of_ble_eq_true rfl) cs_nil (by decide) [] hb10 (by decide) rfl rfl rfl (sX0_books hγ l0  q3.2 q9 hq9) ?_
      refine J_iload_n (i := 2) 3 29 dX0_terms_28 rfl rfl rfl ?_
      obtain ⟨σ11, hσ11, h⟩ := some_of_bind h
      refine J_pI 32 dX0_terms_29 rfl pk_z_281 hσ11 ?_
      refine J_goto 45 dX0_terms_32 (by decide) ?_
      refine J.pick [1, 2, 0] rfl ?_
      exact jX0_terms_c45 hγ l0 l1 q3.1  σ11 h
  · rw [if_pos c2] at h
    refine J_aload_n (i := 0) 0 9 dX0_terms_8 rfl rfl rfl ?_
    refine J_ic 10 dX0_terms_9 rfl (-1 : Int32) kic_m1 ?_
    obtain ⟨b13, hb13, h⟩ := some_of_bind h
    obtain ⟨q12, hq12, h⟩ := some_of_bind h
    refine J_cVi 13 dX0_terms_10 rfl ykX0_tell (Or.inl q630) q632 qs7 (Nat.le_of_ble_eq_true rfl) cs_nil (by decide) [.int (-1 : Int32)] hb13 (by decide) rfl rfl rfl (sX0_tell hγ l0 (-1 : Int32) q1.2 q12 hq12) ?_
    exact J_iret rfl dX0_terms_13 (retI h)
abbrev mX0_top : MP := (cX0_top, "MissCurves", 3, (Option.some FieldType.int), 2, "top", [])
theorem ykX0_top : YK yX0_top mX0_top 2 := ⟨q508, q128, ⟨by decide, by decide⟩, by decide +kernel, Nat.le_of_ble_eq_true rfl, by decide, rfl, rfl⟩
theorem fk_z_311 : FOK "MissCurves" 177 [3] 0 isR := FOK.one (by decide) rfl (Nat.le_of_ble_eq_true rfl) (Or.inr ⟨_, q236⟩) rfl
def X0_top (l0 : Option Nat) (l1 : Int32) (l2 : Int32) (σ : Hp) : Option (Int32 × Hp) :=
  (X0_isTenant l1 σ).bind fun q1 =>
  if q1.1 = 0 then
    some ((-1 : Int32), q1.2)
  else
    (cT q1.2 l0 0).bind fun b4 =>
    (X0_book l0 l1 q1.2).bind fun q3 =>
    (gI q3.2 q3.1 [3] 5).bind fun v5 =>
    (X0_in l2.toInt64 (1 : Int64) v5.toInt64 q3.2).bind fun q6 =>
    if q6.1 = 0 then
      some ((-1 : Int32), q6.2)
    else
      (cT q6.2 l0 0).bind fun b9 =>
      (X0_book l0 l1 q6.2).bind fun q8 =>
      (gR q8.2 q8.1 [3] 0).bind fun v10 =>
      (aI 0 q8.2 v10 (l2 - (1 : Int32))).bind fun v11 =>
      some (v11, q8.2)
set_option maxHeartbeats 4000000 in
theorem sX0_top {γ : GP} (hγ : GOK γ) (l0 : Option Nat) (l1 : Int32) (l2 : Int32) (σ : Hp) (q : (Int32 × Hp)) (h : X0_top l0 l1 l2 σ = some q) : Rn γ mX0_top yX0_top [va_rf l0, .int l1, .int l2] (σ, .inr (some (.int q.1)), q.2) := by
  refine J_m hγ ykX0_top rfl [(1, va_rf l0), (1, .int l1), (1, .int l2)] (cats_r (cats_i (cats_i cats_nil))) (Nat.le_of_ble_eq_true rfl) ?_
  show J γ mX0_top _ σ 0 [(0, 1, va_rf l0), (1, 1, .int l1), (2, 1, .int l2)] []
  unfold X0_top at h
  refine J_iload_n (i := 1) 1 1 dX0_top_0 rfl rfl rfl ?_
  obtain ⟨q1, hq1, h⟩ := some_of_bind h
  refine J_cSi 4 dX0_top_1 rfl ykX0_isTenant (Or.inl q491) q492 (Nat.le_of_ble_eq_true rfl) cs_nil (by decide) [.int l1] rfl rfl (sX0_isTenant hγ l1 σ q1 hq1) ?_
  refine J_if_eq 40 7 dX0_top_4 (by decide) rfl (fun c2 => ?_) (fun c2 => ?_)
  · rw [if_pos c2] at h
    refine J_ic 41 dX0_top_40 rfl (-1 : Int32) kic_m1 ?_
    exact J_iret rfl dX0_top_41 (retI h)
  · rw [if_neg c2] at h
    refine J_iload_n (i := 2) 2 8 dX0_top_7 rfl rfl rfl ?_
    refine J_i2l 9 dX0_top_8 rfl ?_
    refine J_lconst 10 dX0_top_9 rfl (1 : Int64) rfl ?_
    refine J_aload_n (i := 0) 0 11 dX0_top_10 rfl rfl rfl ?_
    refine J_iload_n (i := 1) 1 12 dX0_top_11 rfl rfl rfl ?_
    obtain ⟨b4, hb4, h⟩ := some_of_bind h
    obtain ⟨q3, hq3, h⟩ := some_of_bind h
    refine J_cVr 15 dX0_top_12 rfl ykX0_book (Or.inl q495) q497 qs1 (Nat.le_of_ble_eq_true rfl) (cs_long (cs_long cs_nil)) (by decide) [.int l1] hb4 (by decide) rfl rfl rfl (sX0_book hγ l0 l1 q1.2 q3 hq3) ?_
    obtain ⟨v5, hv5, h⟩ := some_of_bind h
    refine J_gI 18 dX0_top_15 rfl fk_z_285 hv5 ?_
    refine J_i2l 19 dX0_top_18 rfl ?_
    obtain ⟨q6, hq6, h⟩ := some_of_bind h
    refine J_cSi 22 dX0_top_19 rfl ykX0_in (Or.inl q484) q485 (Nat.le_of_ble_eq_true rfl) cs_nil (by decide) [.long l2.toInt64, .long (1 : Int64), .long v5.toInt64] rfl rfl (sX0_in hγ l2.toInt64 (1 : Int64) v5.toInt64 q3.2 q6 hq6) ?_
    refine J_if_eq 40 25 dX0_top_22 (by decide) rfl (fun c7 => ?_) (fun c7 => ?_)
    · rw [if_pos c7] at h
      refine J_ic 41 dX0_top_40 rfl (-1 : Int32) kic_m1 ?_
      exact J_iret rfl dX0_top_41 (retI h)
    · rw [if_neg c7] at h
      refine J_aload_n (i := 0) 0 26 dX0_top_25 rfl rfl rfl ?_
      refine J_iload_n (i := 1) 1 27 dX0_top_26 rfl rfl rfl ?_
      obtain ⟨b9, hb9, h⟩ := some_of_bind h
      obtain ⟨q8, hq8, h⟩ := some_of_bind h
      refine J_cVr 30 dX0_top_27 rfl ykX0_book (Or.inl q495) q497 qs1 (Nat.le_of_ble_eq_true rfl) cs_nil (by decide) [.int l1] hb9 (by decide) rfl rfl rfl (sX0_book hγ l0 l1 q6.2 q8 hq8) ?_
      obtain ⟨v10, hv10, h⟩ := some_of_bind h
      refine J_gR 33 dX0_top_30 rfl fk_z_311 hv10 ?_
      refine J_iload_n (i := 2) 2 34 dX0_top_33 rfl rfl rfl ?_
      refine J_ic 35 dX0_top_34 rfl (1 : Int32) kic_1 ?_
      refine J_isub 36 dX0_top_35 rfl ?_
      obtain ⟨v11, hv11, h⟩ := some_of_bind h
      refine J_iald 37 dX0_top_36 rfl hv11 ?_
      refine J_goto 41 dX0_top_37 (by decide) ?_
      exact J_iret rfl dX0_top_41 (retI h)
abbrev mX0_undo : MP := (cX0_undo, "MissCurves", 1, (Option.some FieldType.int), 3, "undo", [])
theorem ykX0_undo : YK yX0_undo mX0_undo 0 := ⟨q1633, q128, ⟨by decide, by decide⟩, by decide +kernel, Nat.le_of_ble_eq_true rfl, by decide, rfl, rfl⟩
theorem fk_z_312 : FOK "MissCurves" 357 [4] 0 isR := FOK.one (by decide) rfl (Nat.le_of_ble_eq_true rfl) (Or.inr ⟨_, q332⟩) rfl
theorem fk_z_313 : FOK "MissCurves" 364 [2] 2 isI := FOK.one (by decide) rfl (Nat.le_of_ble_eq_true rfl) (Or.inr ⟨_, q284⟩) rfl
def X0_undo (l0 : Option Nat) (σ : Hp) : Option (Int32 × Hp) :=
  (gR σ l0 [0] 2).bind fun v1 =>
  (gI σ v1 [4] 1).bind fun v2 =>
  if v2 = 0 then
    (cT σ l0 0).bind fun b25 =>
    (X0_tell l0 (-3 : Int32) σ).bind fun q24 =>
    some (q24.1, q24.2)
  else
    (gR σ l0 [0] 2).bind fun v4 =>
    (gI σ v4 [4] 1).bind fun v5 =>
    (pI σ v4 [4] 1 (v5 - (1 : Int32))).bind fun σ6 =>
    (cT σ6 l0 0).bind fun b8 =>
    (X0_books l0  σ6).bind fun q7 =>
    (gR q7.2 l0 [0] 2).bind fun v9 =>
    (gR q7.2 v9 [4] 0).bind fun v10 =>
    (gR q7.2 l0 [0] 2).bind fun v11 =>
    (gI q7.2 v11 [4] 1).bind fun v12 =>
    (aR 8 q7.2 v10 v12).bind fun v13 =>
    (cT q7.2 q7.1 2).bind fun b15 =>
    (X2_as q7.1 v13 q7.2).bind fun q14 =>
    (gR q14.2 l0 [0] 2).bind fun v16 =>
    (gR q14.2 v16 [4] 0).bind fun v17 =>
    (gR q14.2 l0 [0] 2).bind fun v18 =>
    (gI q14.2 v18 [4] 1).bind fun v19 =>
    (aR 8 q14.2 v17 v19).bind fun v20 =>
    (gI q14.2 v20 [2] 2).bind fun v21 =>
    (cT q14.2 l0 0).bind fun b23 =>
    (X0_tell l0 v21 q14.2).bind fun q22 =>
    some (q22.1, q22.2)
set_option maxHeartbeats 4000000 in
theorem sX0_undo {γ : GP} (hγ : GOK γ) (l0 : Option Nat) (σ : Hp) (q : (Int32 × Hp)) (h : X0_undo l0 σ = some q) : Rn γ mX0_undo yX0_undo [va_rf l0] (σ, .inr (some (.int q.1)), q.2) := by
  refine J_m hγ ykX0_undo rfl [(1, va_rf l0)] (cats_r cats_nil) (Nat.le_of_ble_eq_true rfl) ?_
  show J γ mX0_undo _ σ 0 [(0, 1, va_rf l0)] []
  unfold X0_undo at h
  refine J_aload_n (i := 0) 0 1 dX0_undo_0 rfl rfl rfl ?_
  obtain ⟨v1, hv1, h⟩ := some_of_bind h
  refine J_gR 4 dX0_undo_1 rfl fk_z_253 hv1 ?_
  obtain ⟨v2, hv2, h⟩ := some_of_bind h
  refine J_gI 7 dX0_undo_4 rfl fk_z_270 hv2 ?_
  refine J_if_ne 17 10 dX0_undo_7 (by decide) rfl (fun c3 => ?_) (fun c3 => ?_)
  · rw [if_neg c3] at h
    refine J_aload_n (i := 0) 0 18 dX0_undo_17 rfl rfl rfl ?_
    obtain ⟨v4, hv4, h⟩ := some_of_bind h
    refine J_gR 21 dX0_undo_18 rfl fk_z_253 hv4 ?_
    refine J_dupr 22 dX0_undo_21 rfl ?_
    obtain ⟨v5, hv5, h⟩ := some_of_bind h
    refine J_gI 25 dX0_undo_22 rfl fk_z_270 hv5 ?_
    refine J_ic 26 dX0_undo_25 rfl (1 : Int32) kic_1 ?_
    refine J_isub 27 dX0_undo_26 rfl ?_
    obtain ⟨σ6, hσ6, h⟩ := some_of_bind h
    refine J_pI 30 dX0_undo_27 rfl pk_z_254 hσ6 ?_
    refine J_aload_n (i := 0) 0 31 dX0_undo_30 rfl rfl rfl ?_
    obtain ⟨b8, hb8, h⟩ := some_of_bind h
    obtain ⟨q7, hq7, h⟩ := some_of_bind h
    refine J_cVr 34 dX0_undo_31 rfl ykX0_books (Or.inl q499) q501 qs2 (Nat.le_of_ble_eq_true rfl) cs_nil (by decide) [] hb8 (by decide) rfl rfl rfl (sX0_books hγ l0  σ6 q7 hq7) ?_
    refine J_aload_n (i := 0) 0 35 dX0_undo_34 rfl rfl rfl ?_
    obtain ⟨v9, hv9, h⟩ := some_of_bind h
    refine J_gR 38 dX0_undo_35 rfl fk_z_253 hv9 ?_
    obtain ⟨v10, hv10, h⟩ := some_of_bind h
    refine J_gR 41 dX0_undo_38 rfl fk_z_312 hv10 ?_
    refine J_aload_n (i := 0) 0 42 dX0_undo_41 rfl rfl rfl ?_
    obtain ⟨v11, hv11, h⟩ := some_of_bind h
    refine J_gR 45 dX0_undo_42 rfl fk_z_253 hv11 ?_
    obtain ⟨v12, hv12, h⟩ := some_of_bind h
    refine J_gI 48 dX0_undo_45 rfl fk_z_270 hv12 ?_
    obtain ⟨v13, hv13, h⟩ := some_of_bind h
    refine J_aald 8 (by decide) (by decide) rfl 49 dX0_undo_48 rfl hv13 ?_
    obtain ⟨b15, hb15, h⟩ := some_of_bind h
    obtain ⟨q14, hq14, h⟩ := some_of_bind h
    refine J_cVr 52 dX0_undo_49 rfl ykX2_as (Or.inl q1634) q1586 q1587 (Nat.le_of_ble_eq_true rfl) cs_nil (by decide) [va_rf v13] hb15 (by decide) rfl rfl rfl (sX2_as hγ q7.1 v13 q7.2 q14 hq14) ?_
    refine J_popr 53 dX0_undo_52 rfl ?_
    refine J_aload_n (i := 0) 0 54 dX0_undo_53 rfl rfl rfl ?_
    refine J_aload_n (i := 0) 0 55 dX0_undo_54 rfl rfl rfl ?_
    obtain ⟨v16, hv16, h⟩ := some_of_bind h
    refine J_gR 58 dX0_undo_55 rfl fk_z_253 hv16 ?_
    obtain ⟨v17, hv17, h⟩ := some_of_bind h
    refine J_gR 61 dX0_undo_58 rfl fk_z_312 hv17 ?_
    refine J_aload_n (i := 0) 0 62 dX0_undo_61 rfl rfl rfl ?_
    obtain ⟨v18, hv18, h⟩ := some_of_bind h
    refine J_gR 65 dX0_undo_62 rfl fk_z_253 hv18 ?_
    obtain ⟨v19, hv19, h⟩ := some_of_bind h
    refine J_gI 68 dX0_undo_65 rfl fk_z_270 hv19 ?_
    obtain ⟨v20, hv20, h⟩ := some_of_bind h
    refine J_aald 8 (by decide) (by decide) rfl 69 dX0_undo_68 rfl hv20 ?_
    obtain ⟨v21, hv21, h⟩ := some_of_bind h
    refine J_gI 72 dX0_undo_69 rfl fk_z_313 hv21 ?_
    obtain ⟨b23, hb23, h⟩ := some_of_bind h
    obtain ⟨q22, hq22, h⟩ := some_of_bind h
    refine J_cVi 75 dX0_undo_72 rfl ykX0_tell (Or.inl q630) q632 qs7 (Nat.le_of_ble_eq_true rfl) cs_nil (by decide) [.int v21] hb23 (by decide) rfl rfl rfl (sX0_tell hγ l0 v21 q14.2 q22 hq22) ?_
    exact J_iret rfl dX0_undo_75 (retI h)
  · rw [if_pos c3] at h
    refine J_aload_n (i := 0) 0 11 dX0_undo_10 rfl rfl rfl ?_
    refine J_bipush 13 dX0_undo_11 rfl (-3 : Int32) kbp_m3 ?_
    obtain ⟨b25, hb25, h⟩ := some_of_bind h
    obtain ⟨q24, hq24, h⟩ := some_of_bind h
    refine J_cVi 16 dX0_undo_13 rfl ykX0_tell (Or.inl q630) q632 qs7 (Nat.le_of_ble_eq_true rfl) cs_nil (by decide) [.int (-3 : Int32)] hb25 (by decide) rfl rfl rfl (sX0_tell hγ l0 (-3 : Int32) σ q24 hq24) ?_
    exact J_iret rfl dX0_undo_16 (retI h)
