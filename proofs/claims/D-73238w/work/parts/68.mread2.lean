set_option maxRecDepth 100000
/-! THE MODEL's READING of tests -/
def rPos (rec : Option Nat → Int32 → Hp → Option Hp) (l0 : Option Nat) (l1 : Int32) (τ1 : Hp) : Option Hp :=
    (cT τ1 l0 7).bind fun b3 =>
    (X7_fine l0  τ1).bind fun q2 =>
    if q2.1 = 0 then
      some q2.2
    else
      (gR q2.2 l0 [7] 18).bind fun v5 =>
      (gI q2.2 l0 [7] 22).bind fun v6 =>
      (aI 0 q2.2 v5 v6).bind fun v7 =>
      (X7_signOf (40 : Int32) q2.2).bind fun q8 =>
      if v7 = q8.1 then
        if l1 = (8 : Int32) then
          (cT q8.2 l0 7).bind fun b25 =>
          (X7_faults l0  q8.2).bind fun q24 =>
          X7_readPlain_c53 rec  l0 l1  q24
        else
          X7_readPlain_c53 rec  l0 l1  q8.2
      else
        (cT q8.2 l0 7).bind fun b11 =>
        (X7_readSum 12 l0 l1 q8.2).bind fun q10 =>
        (X7_signOf (60 : Int32) q10).bind fun q12 =>
        (cT q12.2 l0 7).bind fun b14 =>
        (X7_takes0 l0 q12.1 q12.2).bind fun q13 =>
        if q13.1 = 0 then
          (X7_signOf (62 : Int32) q13.2).bind fun q16 =>
          (cT q16.2 l0 7).bind fun b18 =>
          (X7_takes0 l0 q16.1 q16.2).bind fun q17 =>
          if q17.1 = 0 then
            (X7_signOf (61 : Int32) q17.2).bind fun q20 =>
            (cT q20.2 l0 7).bind fun b22 =>
            (X7_must l0 q20.1 q20.2).bind fun q21 =>
            X7_readPlain_c128 rec  l0 l1  q21
          else
            X7_readPlain_c128 rec  l0 l1  q17.2
        else
          X7_readPlain_c128 rec  l0 l1  q13.2
theorem readPlain_eq {rec : Option Nat → Int32 → Hp → Option Hp} {l0 : Option Nat} {l1 : Int32} {τ : Hp} : X7_readPlain rec l0 l1 τ = X7_readPlain_c2 rec l0 l1 (rPos rec l0 l1) FUEL 1 τ := rfl
/-- behind a sum -/
def rCmp (rec : Option Nat → Int32 → Hp → Option Hp) (l0 : Option Nat) (l1 : Int32) (τ : Hp) : Option Hp :=
        (X7_takes0 l0 (ofN 160) τ).bind fun q13 =>
        if q13.1 = ofN 0 then
          (X7_takes0 l0 (ofN 162) q13.2).bind fun q17 =>
          if q17.1 = ofN 0 then
            (X7_must l0 (ofN 161) q17.2).bind fun q21 =>
            X7_readPlain_c128 rec  l0 l1  q21
          else
            X7_readPlain_c128 rec  l0 l1  q17.2
        else
          X7_readPlain_c128 rec  l0 l1  q13.2
section MREAD2
variable {m : Nat} {σ : Hp} {I : IM} {L : LM} {ord : Bool} {cd vl fr : Nat → Nat} {T i lv : Nat} {b : Int32}
theorem ct_sum {α : Type} {o : Option Nat} {c : Int32} {τ : Hp} {k : Hp → Option α} : ((cT τ o 7).bind fun _ => (X7_readSum 12 o c τ).bind k) = (X7_readSum 12 o c τ).bind k := by
  show ((cT τ o 7).bind fun _ => (X7_readSum_b (X7_readSum 11) o c τ).bind k) = (X7_readSum_b (X7_readSum 11) o c τ).bind k
  unfold X7_readSum_b
  cases cT τ o 7 <;> rfl
theorem ct_sum0 {o : Option Nat} {c : Int32} {τ : Hp} : ((cT τ o 7).bind fun _ => X7_readSum 12 o c τ) = X7_readSum 12 o c τ := by
  show ((cT τ o 7).bind fun _ => X7_readSum_b (X7_readSum 11) o c τ) = X7_readSum_b (X7_readSum 11) o c τ
  unfold X7_readSum_b
  cases cT τ o 7 <;> rfl
theorem ct_mustb {o : Option Nat} {c : Int32} {τ : Hp} {k : Hp → Option Hp} : ((cT τ o 7).bind fun _ => (X7_must o c τ).bind k) = (X7_must o c τ).bind k := by
  unfold X7_must
  cases cT τ o 7 <;> rfl
theorem R_c128 {rec : Option Nat → Int32 → Hp → Option Hp} {o : Option Nat} {c : Int32} {τ : Hp} : X7_readPlain_c128 rec o c τ = X7_readSum 12 o c τ := by
  unfold X7_readPlain_c128
  rw [ct_sum]
  cases X7_readSum 12 o c τ <;> rfl
theorem RdR.map {α β : Type} {p : PR α} {f : α → β} {o : Option Hp} (h : RdR m σ I L fr T p o) : RdR m σ I L fr T (pBd p fun i lv d => .inr (i, lv, f d)) o := by
  rcases h with ⟨j, lv', e1, e2, e3⟩ | ⟨i', lv', d, e1, e2⟩
  · exact Or.inl ⟨j, lv', by rw [e1]; rfl, e2, e3⟩
  · exact Or.inr ⟨i', lv', f d, by rw [e1]; rfl, e2⟩
theorem R_pos (h : MSh m σ) (hR : RdC m I ord cd vl fr T) (hK : Tk cd vl T) {e : Nat} (he : e ≤ 8) {rec : Option Nat → Int32 → Hp → Option Hp} (hrec : ∀ e', e = e' + 1 → Skp m σ I L (rec (some m) (ofN (8 - e'))) ∧ ∀ i lv, i ≤ T → lv ≤ 50 → RdR m σ I L fr T (pTest ord cd vl e' i lv) (rec (some m) (ofN (8 - e')) (hw σ (stR m I i lv (-ofN 1)) L))) (hi : i ≤ T) (hl : lv ≤ 50) : RdR m σ I L fr T (pPos ord cd vl e (recT ord cd vl e) i lv) (rPos rec (some m) (ofN (8 - e)) (hw σ (stR m I i lv (-ofN 1)) L)) := by
  have h1 := hK.1
  have h2 := hK.2.2.1 i
  have hf := (hR.1 i hi).2.2.2
  unfold pPos
  by_cases hy : cd i = 140
  · rw [if_pos hy]
    cases e with
    | zero =>
      refine Or.inl ⟨i, lv, rfl, hi, ?_⟩
      simp (disch := first | omega | assumption) only [rPos, X7_readPlain_c53, R_fine h, R_signOf, R_faults h hR, R_bad h, stR_22, stR_a, (hR.1 i hi).1, hy, if_pos, if_true, mgI, mgL, mpI, mpZ0, mpZ1, mpL, mcT, rZ0, rZ1, mR1, mA1, mS1, mR2, mA2, mS2, mR3, mA3, mS3, mR4, mA4, mS4, mR5, mA5, mS5, mR6, mA6, mS6, mR7, mA7, mS7, mR8, mA8, mS8, mR10, mA10, mS10, mR14, mA14, mS14, mR15, mA15, mS15, mR18, mA18, mS18, mR19, mA19, mS19, mR20, mA20, mS20, mR29, mA29, mS29, mR32, mA32, mS32, mR33, mA33, mS33, mR34, mA34, mS34, mR35, mA35, mS35, mR37, mA37, mS37, mR38, mA38, mS38, mR39, mA39, mS39, mR40, mA40, mS40, mR41, mA41, mS41, mR43, mA43, mS43, mR46, mA46, mS46, mR47, mA47, mS47, mR48, mA48, mS48, mR49, mA49, mS49, mR50, mA50, mS50, mR51, mA51, mS51, mR52, mA52, mS52, mR53, mA53, mS53, mR60, mA60, mS60, mR61, mA61, mS61, Option.bind_some, ofN_add, ofN_mul, ofN_sub, ofN_lt, ofN_le, ofN_inj, ofN_dec, ofN_lt_neg, neg_lt_ofN, ofN_le_neg, neg_le_ofN, ofN_eq_neg, neg_eq_ofN, ofN_irm, ofN_div, l0, l1, l2, l3, l4, l5, l6, l7, l8, l9, l10, l11, l12, l13, l14, l15, l16, l17, l18, l19, l20, l21, l22, l23, l24, l25, l26, l27, l28, l29, l30, l31, l32, l33, l34, l35, l36, l37, l38, l39, l40, l41, l42, l43, l44, l45, l46, l47, l48, l49, l50, l51, l52, l53, l54, l55, l56, l57, l58, l59, l60, l61, l62, l63, l64, l65, l66, l67, l68, l69, l70, l71, l72, l73, l74, l75, l76, l77, l78, l79, l80, l81, l82, l83, l84, l85, l86, l87, l88, l89, l90, l91, l92, l93, l94, l95, l96, l97, l98, l99, l100, l101, l102, l103, l104, l105, l106, l107, l108, l109, l110, l111, l112, l113, l114, l115, l116, l117, l118, l119, l120, l121, l122, l123, l124, l125, l126, l127, l128, l129, l130, l131, l196, l200, l245, l255, l368, l369, l370, l382, l383, l384, l385, l386, l387, l388, l394, l395, l400, l401, l617, l738, l800, l999, l1000, l1500, l1600, l2400, l3195, l5920, l5995, l11990, l99999, l1000000, l100000000, l1000000000, l2000000000, l2147483647]
      rfl
    | succ e =>
      obtain ⟨sk, hr⟩ := hrec e rfl
      have hi2 : i < T := hK.pos (by omega)
      have hX : rPos rec (some m) (ofN (8 - (e + 1))) (hw σ (stR m I i lv (-ofN 1)) L) = (rec (some m) (ofN (8 - e)) (hw σ (stR m I (i + 1) lv (-ofN 1)) L)).bind fun τ => X7_must (some m) (ofN 141) τ := by
        have hc8 : 8 - (e + 1) + 1 = 8 - e := by omega
        simp (disch := first | omega | assumption) only [rPos, X7_readPlain_c53, R_fine h, R_signOf, stR_22, stR_a, stR_set22, (hR.1 i hi).1, hy, hc8, if_pos, if_neg, if_true, Option.bind_fun_some, ct_must, mgI, mgL, mpI, mpZ0, mpZ1, mpL, mcT, rZ0, rZ1, mR1, mA1, mS1, mR2, mA2, mS2, mR3, mA3, mS3, mR4, mA4, mS4, mR5, mA5, mS5, mR6, mA6, mS6, mR7, mA7, mS7, mR8, mA8, mS8, mR10, mA10, mS10, mR14, mA14, mS14, mR15, mA15, mS15, mR18, mA18, mS18, mR19, mA19, mS19, mR20, mA20, mS20, mR29, mA29, mS29, mR32, mA32, mS32, mR33, mA33, mS33, mR34, mA34, mS34, mR35, mA35, mS35, mR37, mA37, mS37, mR38, mA38, mS38, mR39, mA39, mS39, mR40, mA40, mS40, mR41, mA41, mS41, mR43, mA43, mS43, mR46, mA46, mS46, mR47, mA47, mS47, mR48, mA48, mS48, mR49, mA49, mS49, mR50, mA50, mS50, mR51, mA51, mS51, mR52, mA52, mS52, mR53, mA53, mS53, mR60, mA60, mS60, mR61, mA61, mS61, Option.bind_some, ofN_add, ofN_mul, ofN_sub, ofN_lt, ofN_le, ofN_inj, ofN_dec, ofN_lt_neg, neg_lt_ofN, ofN_le_neg, neg_le_ofN, ofN_eq_neg, neg_eq_ofN, ofN_irm, ofN_div, l0, l1, l2, l3, l4, l5, l6, l7, l8, l9, l10, l11, l12, l13, l14, l15, l16, l17, l18, l19, l20, l21, l22, l23, l24, l25, l26, l27, l28, l29, l30, l31, l32, l33, l34, l35, l36, l37, l38, l39, l40, l41, l42, l43, l44, l45, l46, l47, l48, l49, l50, l51, l52, l53, l54, l55, l56, l57, l58, l59, l60, l61, l62, l63, l64, l65, l66, l67, l68, l69, l70, l71, l72, l73, l74, l75, l76, l77, l78, l79, l80, l81, l82, l83, l84, l85, l86, l87, l88, l89, l90, l91, l92, l93, l94, l95, l96, l97, l98, l99, l100, l101, l102, l103, l104, l105, l106, l107, l108, l109, l110, l111, l112, l113, l114, l115, l116, l117, l118, l119, l120, l121, l122, l123, l124, l125, l126, l127, l128, l129, l130, l131, l196, l200, l245, l255, l368, l369, l370, l382, l383, l384, l385, l386, l387, l388, l394, l395, l400, l401, l617, l738, l800, l999, l1000, l1500, l1600, l2400, l3195, l5920, l5995, l11990, l99999, l1000000, l100000000, l1000000000, l2000000000, l2147483647]
      rw [hX]
      refine RdR.bind (fun j hj => (hR.1 j hj).2.2.2) (hr (i + 1) lv (by omega) hl) (fun i' lv' d hp => ?_) (R_mustS h)
      have hrd := pTest_rd (ord := ord) hK e _ _ _ hp (by omega)
      have hm := R_must (L := L) (lv := lv') (i := i') h hR hK hrd.2.1 (c := 141) (by omega)
      rw [hm]
      by_cases hz : cd i' = 141
      · rw [if_pos hz, if_pos hz]
        exact Or.inr ⟨_, _, _, rfl, rfl⟩
      · rw [if_neg hz, if_neg hz]
        exact Or.inl ⟨_, _, rfl, hrd.2.1, rfl⟩
  · rw [if_neg hy]
    have sks : Skp m σ I L (X7_readSum 12 (some m) (ofN (8 - e))) := R_sumS h 12 (by omega)
    have hX : rPos rec (some m) (ofN (8 - e)) (hw σ (stR m I i lv (-ofN 1)) L) = (X7_readSum 12 (some m) (ofN (8 - e)) (hw σ (stR m I i lv (-ofN 1)) L)).bind (rCmp rec (some m) (ofN (8 - e))) := by
      simp (disch := first | omega | assumption) only [rPos, R_fine h, R_signOf, stR_22, stR_a, (hR.1 i hi).1, if_neg, ct_takes, ct_mustb, mgI, mgL, mpI, mpZ0, mpZ1, mpL, mcT, rZ0, rZ1, mR1, mA1, mS1, mR2, mA2, mS2, mR3, mA3, mS3, mR4, mA4, mS4, mR5, mA5, mS5, mR6, mA6, mS6, mR7, mA7, mS7, mR8, mA8, mS8, mR10, mA10, mS10, mR14, mA14, mS14, mR15, mA15, mS15, mR18, mA18, mS18, mR19, mA19, mS19, mR20, mA20, mS20, mR29, mA29, mS29, mR32, mA32, mS32, mR33, mA33, mS33, mR34, mA34, mS34, mR35, mA35, mS35, mR37, mA37, mS37, mR38, mA38, mS38, mR39, mA39, mS39, mR40, mA40, mS40, mR41, mA41, mS41, mR43, mA43, mS43, mR46, mA46, mS46, mR47, mA47, mS47, mR48, mA48, mS48, mR49, mA49, mS49, mR50, mA50, mS50, mR51, mA51, mS51, mR52, mA52, mS52, mR53, mA53, mS53, mR60, mA60, mS60, mR61, mA61, mS61, Option.bind_some, ofN_add, ofN_mul, ofN_sub, ofN_lt, ofN_le, ofN_inj, ofN_dec, ofN_lt_neg, neg_lt_ofN, ofN_le_neg, neg_le_ofN, ofN_eq_neg, neg_eq_ofN, ofN_irm, ofN_div, l0, l1, l2, l3, l4, l5, l6, l7, l8, l9, l10, l11, l12, l13, l14, l15, l16, l17, l18, l19, l20, l21, l22, l23, l24, l25, l26, l27, l28, l29, l30, l31, l32, l33, l34, l35, l36, l37, l38, l39, l40, l41, l42, l43, l44, l45, l46, l47, l48, l49, l50, l51, l52, l53, l54, l55, l56, l57, l58, l59, l60, l61, l62, l63, l64, l65, l66, l67, l68, l69, l70, l71, l72, l73, l74, l75, l76, l77, l78, l79, l80, l81, l82, l83, l84, l85, l86, l87, l88, l89, l90, l91, l92, l93, l94, l95, l96, l97, l98, l99, l100, l101, l102, l103, l104, l105, l106, l107, l108, l109, l110, l111, l112, l113, l114, l115, l116, l117, l118, l119, l120, l121, l122, l123, l124, l125, l126, l127, l128, l129, l130, l131, l196, l200, l245, l255, l368, l369, l370, l382, l383, l384, l385, l386, l387, l388, l394, l395, l400, l401, l617, l738, l800, l999, l1000, l1500, l1600, l2400, l3195, l5920, l5995, l11990, l99999, l1000000, l100000000, l1000000000, l2000000000, l2147483647]
      rfl
    rw [hX]
    have sk : Skp m σ I L (rCmp rec (some m) (ofN (8 - e))) := by
      intro i lv j hj
      simp (disch := first | omega | assumption) only [rCmp, R_takesS h hj, R_mustS h i lv j hj, R_c128, sks i lv j hj, if_true, Option.bind_some, ofN_add, ofN_mul, ofN_sub, ofN_lt, ofN_le, ofN_inj, ofN_dec, ofN_lt_neg, neg_lt_ofN, ofN_le_neg, neg_le_ofN, ofN_eq_neg, neg_eq_ofN, ofN_irm, ofN_div, l0, l1, l2, l3, l4, l5, l6, l7, l8, l9, l10, l11, l12, l13, l14, l15, l16, l17, l18, l19, l20, l21, l22, l23, l24, l25, l26, l27, l28, l29, l30, l31, l32, l33, l34, l35, l36, l37, l38, l39, l40, l41, l42, l43, l44, l45, l46, l47, l48, l49, l50, l51, l52, l53, l54, l55, l56, l57, l58, l59, l60, l61, l62, l63, l64, l65, l66, l67, l68, l69, l70, l71, l72, l73, l74, l75, l76, l77, l78, l79, l80, l81, l82, l83, l84, l85, l86, l87, l88, l89, l90, l91, l92, l93, l94, l95, l96, l97, l98, l99, l100, l101, l102, l103, l104, l105, l106, l107, l108, l109, l110, l111, l112, l113, l114, l115, l116, l117, l118, l119, l120, l121, l122, l123, l124, l125, l126, l127, l128, l129, l130, l131, l196, l200, l245, l255, l368, l369, l370, l382, l383, l384, l385, l386, l387, l388, l394, l395, l400, l401, l617, l738, l800, l999, l1000, l1500, l1600, l2400, l3195, l5920, l5995, l11990, l99999, l1000000, l100000000, l1000000000, l2000000000, l2147483647]
    refine RdR.bind (fun j hj => (hR.1 j hj).2.2.2) (R_sum h hR hK e 12 he (by omega) i lv hi hl) (fun i1 lv1 d1 hp => ?_) sk
    have hrd := pSum_rd (ord := ord) hK e _ _ _ hp (by omega)
    dsimp only at hrd
    obtain ⟨r1, r2, r3, r4, -⟩ := hrd
    have hc := hK.2.2.1 i1
    have hf1 := (hR.1 i1 r2).2.2.2
    by_cases hz : cd i1 = 160 ∨ cd i1 = 162 ∨ cd i1 = 161
    · rw [if_pos hz]
      have hi3 : i1 < T := hK.pos (by omega)
      have e1 : rCmp rec (some m) (ofN (8 - e)) (hw σ (stR m I i1 lv1 (-ofN 1)) L) = X7_readSum 12 (some m) (ofN (8 - e)) (hw σ (stR m I (i1 + 1) lv1 (-ofN 1)) L) := by
        rcases hz with hz | hz | hz
        · simp (disch := first | omega | assumption) only [rCmp, R_takes h hR hK, R_c128, hz, if_true, if_pos, if_neg, Option.bind_some, ofN_add, ofN_mul, ofN_sub, ofN_lt, ofN_le, ofN_inj, ofN_dec, ofN_lt_neg, neg_lt_ofN, ofN_le_neg, neg_le_ofN, ofN_eq_neg, neg_eq_ofN, ofN_irm, ofN_div, l0, l1, l2, l3, l4, l5, l6, l7, l8, l9, l10, l11, l12, l13, l14, l15, l16, l17, l18, l19, l20, l21, l22, l23, l24, l25, l26, l27, l28, l29, l30, l31, l32, l33, l34, l35, l36, l37, l38, l39, l40, l41, l42, l43, l44, l45, l46, l47, l48, l49, l50, l51, l52, l53, l54, l55, l56, l57, l58, l59, l60, l61, l62, l63, l64, l65, l66, l67, l68, l69, l70, l71, l72, l73, l74, l75, l76, l77, l78, l79, l80, l81, l82, l83, l84, l85, l86, l87, l88, l89, l90, l91, l92, l93, l94, l95, l96, l97, l98, l99, l100, l101, l102, l103, l104, l105, l106, l107, l108, l109, l110, l111, l112, l113, l114, l115, l116, l117, l118, l119, l120, l121, l122, l123, l124, l125, l126, l127, l128, l129, l130, l131, l196, l200, l245, l255, l368, l369, l370, l382, l383, l384, l385, l386, l387, l388, l394, l395, l400, l401, l617, l738, l800, l999, l1000, l1500, l1600, l2400, l3195, l5920, l5995, l11990, l99999, l1000000, l100000000, l1000000000, l2000000000, l2147483647]
        · simp (disch := first | omega | assumption) only [rCmp, R_takes h hR hK, R_c128, hz, if_true, if_pos, if_neg, Option.bind_some, ofN_add, ofN_mul, ofN_sub, ofN_lt, ofN_le, ofN_inj, ofN_dec, ofN_lt_neg, neg_lt_ofN, ofN_le_neg, neg_le_ofN, ofN_eq_neg, neg_eq_ofN, ofN_irm, ofN_div, l0, l1, l2, l3, l4, l5, l6, l7, l8, l9, l10, l11, l12, l13, l14, l15, l16, l17, l18, l19, l20, l21, l22, l23, l24, l25, l26, l27, l28, l29, l30, l31, l32, l33, l34, l35, l36, l37, l38, l39, l40, l41, l42, l43, l44, l45, l46, l47, l48, l49, l50, l51, l52, l53, l54, l55, l56, l57, l58, l59, l60, l61, l62, l63, l64, l65, l66, l67, l68, l69, l70, l71, l72, l73, l74, l75, l76, l77, l78, l79, l80, l81, l82, l83, l84, l85, l86, l87, l88, l89, l90, l91, l92, l93, l94, l95, l96, l97, l98, l99, l100, l101, l102, l103, l104, l105, l106, l107, l108, l109, l110, l111, l112, l113, l114, l115, l116, l117, l118, l119, l120, l121, l122, l123, l124, l125, l126, l127, l128, l129, l130, l131, l196, l200, l245, l255, l368, l369, l370, l382, l383, l384, l385, l386, l387, l388, l394, l395, l400, l401, l617, l738, l800, l999, l1000, l1500, l1600, l2400, l3195, l5920, l5995, l11990, l99999, l1000000, l100000000, l1000000000, l2000000000, l2147483647]
        · simp (disch := first | omega | assumption) only [rCmp, R_takes h hR hK, R_must h hR hK, R_c128, hz, if_true, if_pos, if_neg, Option.bind_some, ofN_add, ofN_mul, ofN_sub, ofN_lt, ofN_le, ofN_inj, ofN_dec, ofN_lt_neg, neg_lt_ofN, ofN_le_neg, neg_le_ofN, ofN_eq_neg, neg_eq_ofN, ofN_irm, ofN_div, l0, l1, l2, l3, l4, l5, l6, l7, l8, l9, l10, l11, l12, l13, l14, l15, l16, l17, l18, l19, l20, l21, l22, l23, l24, l25, l26, l27, l28, l29, l30, l31, l32, l33, l34, l35, l36, l37, l38, l39, l40, l41, l42, l43, l44, l45, l46, l47, l48, l49, l50, l51, l52, l53, l54, l55, l56, l57, l58, l59, l60, l61, l62, l63, l64, l65, l66, l67, l68, l69, l70, l71, l72, l73, l74, l75, l76, l77, l78, l79, l80, l81, l82, l83, l84, l85, l86, l87, l88, l89, l90, l91, l92, l93, l94, l95, l96, l97, l98, l99, l100, l101, l102, l103, l104, l105, l106, l107, l108, l109, l110, l111, l112, l113, l114, l115, l116, l117, l118, l119, l120, l121, l122, l123, l124, l125, l126, l127, l128, l129, l130, l131, l196, l200, l245, l255, l368, l369, l370, l382, l383, l384, l385, l386, l387, l388, l394, l395, l400, l401, l617, l738, l800, l999, l1000, l1500, l1600, l2400, l3195, l5920, l5995, l11990, l99999, l1000000, l100000000, l1000000000, l2000000000, l2147483647]
      rw [e1]
      exact RdR.map (R_sum h hR hK e 12 he (by omega) (i1 + 1) lv1 (by omega) r4)
    · rw [if_neg hz]
      refine Or.inl ⟨i1, lv1, rfl, r2, ?_⟩
      have g1 : cd i1 ≠ 160 := fun w => hz (Or.inl w)
      have g2 : cd i1 ≠ 162 := fun w => hz (Or.inr (Or.inl w))
      have g3 : cd i1 ≠ 161 := fun w => hz (Or.inr (Or.inr w))
      simp (disch := first | omega | assumption) only [rCmp, R_takes h hR hK, R_must h hR hK, R_c128, sks i1 lv1 (fr i1) hf1, if_true, if_pos, if_neg, Option.bind_some, ofN_add, ofN_mul, ofN_sub, ofN_lt, ofN_le, ofN_inj, ofN_dec, ofN_lt_neg, neg_lt_ofN, ofN_le_neg, neg_le_ofN, ofN_eq_neg, neg_eq_ofN, ofN_irm, ofN_div, l0, l1, l2, l3, l4, l5, l6, l7, l8, l9, l10, l11, l12, l13, l14, l15, l16, l17, l18, l19, l20, l21, l22, l23, l24, l25, l26, l27, l28, l29, l30, l31, l32, l33, l34, l35, l36, l37, l38, l39, l40, l41, l42, l43, l44, l45, l46, l47, l48, l49, l50, l51, l52, l53, l54, l55, l56, l57, l58, l59, l60, l61, l62, l63, l64, l65, l66, l67, l68, l69, l70, l71, l72, l73, l74, l75, l76, l77, l78, l79, l80, l81, l82, l83, l84, l85, l86, l87, l88, l89, l90, l91, l92, l93, l94, l95, l96, l97, l98, l99, l100, l101, l102, l103, l104, l105, l106, l107, l108, l109, l110, l111, l112, l113, l114, l115, l116, l117, l118, l119, l120, l121, l122, l123, l124, l125, l126, l127, l128, l129, l130, l131, l196, l200, l245, l255, l368, l369, l370, l382, l383, l384, l385, l386, l387, l388, l394, l395, l400, l401, l617, l738, l800, l999, l1000, l1500, l1600, l2400, l3195, l5920, l5995, l11990, l99999, l1000000, l100000000, l1000000000, l2000000000, l2147483647]
theorem R_posS (h : MSh m σ) {rec : Option Nat → Int32 → Hp → Option Hp} {c : Int32} : Skp m σ I L (rPos rec (some m) c) := by
  intro i lv j hj
  simp (disch := first | omega | assumption) only [rPos, R_bad h hj, if_true, mgI, mgL, mpI, mpZ0, mpZ1, mpL, mcT, rZ0, rZ1, mR1, mA1, mS1, mR2, mA2, mS2, mR3, mA3, mS3, mR4, mA4, mS4, mR5, mA5, mS5, mR6, mA6, mS6, mR7, mA7, mS7, mR8, mA8, mS8, mR10, mA10, mS10, mR14, mA14, mS14, mR15, mA15, mS15, mR18, mA18, mS18, mR19, mA19, mS19, mR20, mA20, mS20, mR29, mA29, mS29, mR32, mA32, mS32, mR33, mA33, mS33, mR34, mA34, mS34, mR35, mA35, mS35, mR37, mA37, mS37, mR38, mA38, mS38, mR39, mA39, mS39, mR40, mA40, mS40, mR41, mA41, mS41, mR43, mA43, mS43, mR46, mA46, mS46, mR47, mA47, mS47, mR48, mA48, mS48, mR49, mA49, mS49, mR50, mA50, mS50, mR51, mA51, mS51, mR52, mA52, mS52, mR53, mA53, mS53, mR60, mA60, mS60, mR61, mA61, mS61, Option.bind_some, ofN_add, ofN_mul, ofN_sub, ofN_lt, ofN_le, ofN_inj, ofN_dec, ofN_lt_neg, neg_lt_ofN, ofN_le_neg, neg_le_ofN, ofN_eq_neg, neg_eq_ofN, ofN_irm, ofN_div, l0, l1, l2, l3, l4, l5, l6, l7, l8, l9, l10, l11, l12, l13, l14, l15, l16, l17, l18, l19, l20, l21, l22, l23, l24, l25, l26, l27, l28, l29, l30, l31, l32, l33, l34, l35, l36, l37, l38, l39, l40, l41, l42, l43, l44, l45, l46, l47, l48, l49, l50, l51, l52, l53, l54, l55, l56, l57, l58, l59, l60, l61, l62, l63, l64, l65, l66, l67, l68, l69, l70, l71, l72, l73, l74, l75, l76, l77, l78, l79, l80, l81, l82, l83, l84, l85, l86, l87, l88, l89, l90, l91, l92, l93, l94, l95, l96, l97, l98, l99, l100, l101, l102, l103, l104, l105, l106, l107, l108, l109, l110, l111, l112, l113, l114, l115, l116, l117, l118, l119, l120, l121, l122, l123, l124, l125, l126, l127, l128, l129, l130, l131, l196, l200, l245, l255, l368, l369, l370, l382, l383, l384, l385, l386, l387, l388, l394, l395, l400, l401, l617, l738, l800, l999, l1000, l1500, l1600, l2400, l3195, l5920, l5995, l11990, l99999, l1000000, l100000000, l1000000000, l2000000000, l2147483647]
theorem R_nots (h : MSh m σ) (hR : RdC m I ord cd vl fr T) (hK : Tk cd vl T) {rec : Option Nat → Int32 → Hp → Option Hp} {c : Int32} {k : Hp → Option Hp} : ∀ (r fuel i : Nat) (nb : Bool), i ≤ T → T < i + r → r < fuel →
    X7_readPlain_c2 rec (some m) c k fuel (ofN 1) (hw σ (stR m I i lv (-ofN 1)) L) = k (hw σ (stR m I (pNots cd r i nb).1 lv (-ofN 1)) L) := by
  have h1 := hK.1
  intro r
  induction r with
  | zero => intro fuel i nb hi hr; omega
  | succ r ih =>
    intro fuel i nb hi hr hf
    obtain ⟨f, rfl⟩ : ∃ f, fuel = f + 1 := ⟨fuel - 1, by omega⟩
    unfold pNots
    by_cases hy : cd i = 6
    · have hi2 : i < T := hK.pos (by omega)
      rw [if_pos hy, ← ih f (i + 1) (!nb) (by omega) (by omega) (by omega)]
      rw [X7_readPlain_c2]
      simp (disch := first | omega | assumption) only [R_takes h hR hK, hy, if_neg, if_true, mgI, mgL, mpI, mpZ0, mpZ1, mpL, mcT, rZ0, rZ1, mR1, mA1, mS1, mR2, mA2, mS2, mR3, mA3, mS3, mR4, mA4, mS4, mR5, mA5, mS5, mR6, mA6, mS6, mR7, mA7, mS7, mR8, mA8, mS8, mR10, mA10, mS10, mR14, mA14, mS14, mR15, mA15, mS15, mR18, mA18, mS18, mR19, mA19, mS19, mR20, mA20, mS20, mR29, mA29, mS29, mR32, mA32, mS32, mR33, mA33, mS33, mR34, mA34, mS34, mR35, mA35, mS35, mR37, mA37, mS37, mR38, mA38, mS38, mR39, mA39, mS39, mR40, mA40, mS40, mR41, mA41, mS41, mR43, mA43, mS43, mR46, mA46, mS46, mR47, mA47, mS47, mR48, mA48, mS48, mR49, mA49, mS49, mR50, mA50, mS50, mR51, mA51, mS51, mR52, mA52, mS52, mR53, mA53, mS53, mR60, mA60, mS60, mR61, mA61, mS61, Option.bind_some, ofN_add, ofN_mul, ofN_sub, ofN_lt, ofN_le, ofN_inj, ofN_dec, ofN_lt_neg, neg_lt_ofN, ofN_le_neg, neg_le_ofN, ofN_eq_neg, neg_eq_ofN, ofN_irm, ofN_div, l0, l1, l2, l3, l4, l5, l6, l7, l8, l9, l10, l11, l12, l13, l14, l15, l16, l17, l18, l19, l20, l21, l22, l23, l24, l25, l26, l27, l28, l29, l30, l31, l32, l33, l34, l35, l36, l37, l38, l39, l40, l41, l42, l43, l44, l45, l46, l47, l48, l49, l50, l51, l52, l53, l54, l55, l56, l57, l58, l59, l60, l61, l62, l63, l64, l65, l66, l67, l68, l69, l70, l71, l72, l73, l74, l75, l76, l77, l78, l79, l80, l81, l82, l83, l84, l85, l86, l87, l88, l89, l90, l91, l92, l93, l94, l95, l96, l97, l98, l99, l100, l101, l102, l103, l104, l105, l106, l107, l108, l109, l110, l111, l112, l113, l114, l115, l116, l117, l118, l119, l120, l121, l122, l123, l124, l125, l126, l127, l128, l129, l130, l131, l196, l200, l245, l255, l368, l369, l370, l382, l383, l384, l385, l386, l387, l388, l394, l395, l400, l401, l617, l738, l800, l999, l1000, l1500, l1600, l2400, l3195, l5920, l5995, l11990, l99999, l1000000, l100000000, l1000000000, l2000000000, l2147483647]
    · obtain ⟨f, rfl⟩ : ∃ f', f = f' + 1 := ⟨f - 1, by omega⟩
      rw [if_neg hy]
      simp (disch := first | omega | assumption) only [X7_readPlain_c2, R_takes h hR hK, if_neg hy, if_neg, if_true, mgI, mgL, mpI, mpZ0, mpZ1, mpL, mcT, rZ0, rZ1, mR1, mA1, mS1, mR2, mA2, mS2, mR3, mA3, mS3, mR4, mA4, mS4, mR5, mA5, mS5, mR6, mA6, mS6, mR7, mA7, mS7, mR8, mA8, mS8, mR10, mA10, mS10, mR14, mA14, mS14, mR15, mA15, mS15, mR18, mA18, mS18, mR19, mA19, mS19, mR20, mA20, mS20, mR29, mA29, mS29, mR32, mA32, mS32, mR33, mA33, mS33, mR34, mA34, mS34, mR35, mA35, mS35, mR37, mA37, mS37, mR38, mA38, mS38, mR39, mA39, mS39, mR40, mA40, mS40, mR41, mA41, mS41, mR43, mA43, mS43, mR46, mA46, mS46, mR47, mA47, mS47, mR48, mA48, mS48, mR49, mA49, mS49, mR50, mA50, mS50, mR51, mA51, mS51, mR52, mA52, mS52, mR53, mA53, mS53, mR60, mA60, mS60, mR61, mA61, mS61, Option.bind_some, ofN_add, ofN_mul, ofN_sub, ofN_lt, ofN_le, ofN_inj, ofN_dec, ofN_lt_neg, neg_lt_ofN, ofN_le_neg, neg_le_ofN, ofN_eq_neg, neg_eq_ofN, ofN_irm, ofN_div, l0, l1, l2, l3, l4, l5, l6, l7, l8, l9, l10, l11, l12, l13, l14, l15, l16, l17, l18, l19, l20, l21, l22, l23, l24, l25, l26, l27, l28, l29, l30, l31, l32, l33, l34, l35, l36, l37, l38, l39, l40, l41, l42, l43, l44, l45, l46, l47, l48, l49, l50, l51, l52, l53, l54, l55, l56, l57, l58, l59, l60, l61, l62, l63, l64, l65, l66, l67, l68, l69, l70, l71, l72, l73, l74, l75, l76, l77, l78, l79, l80, l81, l82, l83, l84, l85, l86, l87, l88, l89, l90, l91, l92, l93, l94, l95, l96, l97, l98, l99, l100, l101, l102, l103, l104, l105, l106, l107, l108, l109, l110, l111, l112, l113, l114, l115, l116, l117, l118, l119, l120, l121, l122, l123, l124, l125, l126, l127, l128, l129, l130, l131, l196, l200, l245, l255, l368, l369, l370, l382, l383, l384, l385, l386, l387, l388, l394, l395, l400, l401, l617, l738, l800, l999, l1000, l1500, l1600, l2400, l3195, l5920, l5995, l11990, l99999, l1000000, l100000000, l1000000000, l2000000000, l2147483647]
theorem R_plain (h : MSh m σ) (hR : RdC m I ord cd vl fr T) (hK : Tk cd vl T) {e : Nat} (he : e ≤ 8) {rec : Option Nat → Int32 → Hp → Option Hp} (hrec : ∀ e', e = e' + 1 → Skp m σ I L (rec (some m) (ofN (8 - e'))) ∧ ∀ i lv, i ≤ T → lv ≤ 50 → RdR m σ I L fr T (pTest ord cd vl e' i lv) (rec (some m) (ofN (8 - e')) (hw σ (stR m I i lv (-ofN 1)) L))) (hi : i ≤ T) (hl : lv ≤ 50) : RdR m σ I L fr T (pPlain ord cd vl e (recT ord cd vl e) i lv) (X7_readPlain rec (some m) (ofN (8 - e)) (hw σ (stR m I i lv (-ofN 1)) L)) := by
  have h1 := hK.1
  rw [readPlain_eq, show (1 : Int32) = ofN 1 from rfl, R_nots h hR hK 500 FUEL i false hi (by omega) (by unfold FUEL; omega)]
  unfold pPlain
  exact RdR.map (R_pos h hR hK he hrec (pNots_le hK 500 i false hi).2 hl)
theorem R_plainS (h : MSh m σ) {rec : Option Nat → Int32 → Hp → Option Hp} {c : Int32} : Skp m σ I L (X7_readPlain rec (some m) c) := by
  intro i lv j hj
  obtain ⟨f, hf⟩ : ∃ f, FUEL = f + 1 + 1 := ⟨FUEL - 2, by unfold FUEL; omega⟩
  rw [readPlain_eq, hf]
  simp (disch := first | omega | assumption) only [X7_readPlain_c2, R_takesS h hj, R_posS h i lv j hj, if_neg, if_true, mgI, mgL, mpI, mpZ0, mpZ1, mpL, mcT, rZ0, rZ1, mR1, mA1, mS1, mR2, mA2, mS2, mR3, mA3, mS3, mR4, mA4, mS4, mR5, mA5, mS5, mR6, mA6, mS6, mR7, mA7, mS7, mR8, mA8, mS8, mR10, mA10, mS10, mR14, mA14, mS14, mR15, mA15, mS15, mR18, mA18, mS18, mR19, mA19, mS19, mR20, mA20, mS20, mR29, mA29, mS29, mR32, mA32, mS32, mR33, mA33, mS33, mR34, mA34, mS34, mR35, mA35, mS35, mR37, mA37, mS37, mR38, mA38, mS38, mR39, mA39, mS39, mR40, mA40, mS40, mR41, mA41, mS41, mR43, mA43, mS43, mR46, mA46, mS46, mR47, mA47, mS47, mR48, mA48, mS48, mR49, mA49, mS49, mR50, mA50, mS50, mR51, mA51, mS51, mR52, mA52, mS52, mR53, mA53, mS53, mR60, mA60, mS60, mR61, mA61, mS61, Option.bind_some, ofN_add, ofN_mul, ofN_sub, ofN_lt, ofN_le, ofN_inj, ofN_dec, ofN_lt_neg, neg_lt_ofN, ofN_le_neg, neg_le_ofN, ofN_eq_neg, neg_eq_ofN, ofN_irm, ofN_div, l0, l1, l2, l3, l4, l5, l6, l7, l8, l9, l10, l11, l12, l13, l14, l15, l16, l17, l18, l19, l20, l21, l22, l23, l24, l25, l26, l27, l28, l29, l30, l31, l32, l33, l34, l35, l36, l37, l38, l39, l40, l41, l42, l43, l44, l45, l46, l47, l48, l49, l50, l51, l52, l53, l54, l55, l56, l57, l58, l59, l60, l61, l62, l63, l64, l65, l66, l67, l68, l69, l70, l71, l72, l73, l74, l75, l76, l77, l78, l79, l80, l81, l82, l83, l84, l85, l86, l87, l88, l89, l90, l91, l92, l93, l94, l95, l96, l97, l98, l99, l100, l101, l102, l103, l104, l105, l106, l107, l108, l109, l110, l111, l112, l113, l114, l115, l116, l117, l118, l119, l120, l121, l122, l123, l124, l125, l126, l127, l128, l129, l130, l131, l196, l200, l245, l255, l368, l369, l370, l382, l383, l384, l385, l386, l387, l388, l394, l395, l400, l401, l617, l738, l800, l999, l1000, l1500, l1600, l2400, l3195, l5920, l5995, l11990, l99999, l1000000, l100000000, l1000000000, l2000000000, l2147483647]
theorem ct_plain {o : Option Nat} {c : Int32} {τ : Hp} {rec : Option Nat → Int32 → Hp → Option Hp} {k : Hp → Option Hp} : ((cT τ o 7).bind fun _ => (X7_readPlain rec o c τ).bind k) = (X7_readPlain rec o c τ).bind k := by
  obtain ⟨f, hf⟩ : ∃ f, FUEL = f + 1 := ⟨FUEL - 1, by unfold FUEL; omega⟩
  rw [readPlain_eq, hf, X7_readPlain_c2, if_neg (by decide)]
  cases cT τ o 7 <;> rfl
theorem R_bothF (h : MSh m σ) (hR : RdC m I ord cd vl fr T) (hK : Tk cd vl T) {rec : Option Nat → Int32 → Hp → Option Hp} {part : Nat → Nat → PR DT} {c : Int32} (hp : RdT T part) (hpr : ∀ i lv, i ≤ T → lv ≤ 50 → RdR m σ I L fr T (part i lv) (X7_readPlain rec (some m) c (hw σ (stR m I i lv (-ofN 1)) L))) : ∀ (r i lv fuel : Nat) (d : DT), T < i + r → i ≤ T → lv ≤ 50 → r < fuel →
    RdR m σ I L fr T (pTRow cd 5 andD part r i lv d) (X7_readBoth_c5 rec (some m) c fuel (hw σ (stR m I i lv (-ofN 1)) L)) := by
  have h1 := hK.1
  have sk : ∀ fuel, 0 < fuel → Skp m σ I L (X7_readBoth_c5 rec (some m) c fuel) := by
    intro fuel hf i lv j hj
    obtain ⟨f, rfl⟩ : ∃ f, fuel = f + 1 := ⟨fuel - 1, by omega⟩
    simp (disch := first | omega | assumption) only [X7_readBoth_c5, R_takesS h hj, if_true, mgI, mgL, mpI, mpZ0, mpZ1, mpL, mcT, rZ0, rZ1, mR1, mA1, mS1, mR2, mA2, mS2, mR3, mA3, mS3, mR4, mA4, mS4, mR5, mA5, mS5, mR6, mA6, mS6, mR7, mA7, mS7, mR8, mA8, mS8, mR10, mA10, mS10, mR14, mA14, mS14, mR15, mA15, mS15, mR18, mA18, mS18, mR19, mA19, mS19, mR20, mA20, mS20, mR29, mA29, mS29, mR32, mA32, mS32, mR33, mA33, mS33, mR34, mA34, mS34, mR35, mA35, mS35, mR37, mA37, mS37, mR38, mA38, mS38, mR39, mA39, mS39, mR40, mA40, mS40, mR41, mA41, mS41, mR43, mA43, mS43, mR46, mA46, mS46, mR47, mA47, mS47, mR48, mA48, mS48, mR49, mA49, mS49, mR50, mA50, mS50, mR51, mA51, mS51, mR52, mA52, mS52, mR53, mA53, mS53, mR60, mA60, mS60, mR61, mA61, mS61, Option.bind_some, ofN_add, ofN_mul, ofN_sub, ofN_lt, ofN_le, ofN_inj, ofN_dec, ofN_lt_neg, neg_lt_ofN, ofN_le_neg, neg_le_ofN, ofN_eq_neg, neg_eq_ofN, ofN_irm, ofN_div, l0, l1, l2, l3, l4, l5, l6, l7, l8, l9, l10, l11, l12, l13, l14, l15, l16, l17, l18, l19, l20, l21, l22, l23, l24, l25, l26, l27, l28, l29, l30, l31, l32, l33, l34, l35, l36, l37, l38, l39, l40, l41, l42, l43, l44, l45, l46, l47, l48, l49, l50, l51, l52, l53, l54, l55, l56, l57, l58, l59, l60, l61, l62, l63, l64, l65, l66, l67, l68, l69, l70, l71, l72, l73, l74, l75, l76, l77, l78, l79, l80, l81, l82, l83, l84, l85, l86, l87, l88, l89, l90, l91, l92, l93, l94, l95, l96, l97, l98, l99, l100, l101, l102, l103, l104, l105, l106, l107, l108, l109, l110, l111, l112, l113, l114, l115, l116, l117, l118, l119, l120, l121, l122, l123, l124, l125, l126, l127, l128, l129, l130, l131, l196, l200, l245, l255, l368, l369, l370, l382, l383, l384, l385, l386, l387, l388, l394, l395, l400, l401, l617, l738, l800, l999, l1000, l1500, l1600, l2400, l3195, l5920, l5995, l11990, l99999, l1000000, l100000000, l1000000000, l2000000000, l2147483647]
  intro r
  induction r with
  | zero => intro i lv fuel d hr hi; omega
  | succ r ih =>
    intro i lv fuel d hr hi hl hf
    obtain ⟨f, rfl⟩ : ∃ f, fuel = f + 1 := ⟨fuel - 1, by omega⟩
    unfold pTRow
    by_cases hy : cd i = 5
    · have hi2 : i < T := hK.pos (by omega)
      have hX : X7_readBoth_c5 rec (some m) c (f + 1) (hw σ (stR m I i lv (-ofN 1)) L) = (X7_readPlain rec (some m) c (hw σ (stR m I (i + 1) lv (-ofN 1)) L)).bind (X7_readBoth_c5 rec (some m) c f) := by
        simp (disch := first | omega | assumption) only [X7_readBoth_c5, R_takes h hR hK, hy, ct_plain, if_true, if_pos, if_neg, mgI, mgL, mpI, mpZ0, mpZ1, mpL, mcT, rZ0, rZ1, mR1, mA1, mS1, mR2, mA2, mS2, mR3, mA3, mS3, mR4, mA4, mS4, mR5, mA5, mS5, mR6, mA6, mS6, mR7, mA7, mS7, mR8, mA8, mS8, mR10, mA10, mS10, mR14, mA14, mS14, mR15, mA15, mS15, mR18, mA18, mS18, mR19, mA19, mS19, mR20, mA20, mS20, mR29, mA29, mS29, mR32, mA32, mS32, mR33, mA33, mS33, mR34, mA34, mS34, mR35, mA35, mS35, mR37, mA37, mS37, mR38, mA38, mS38, mR39, mA39, mS39, mR40, mA40, mS40, mR41, mA41, mS41, mR43, mA43, mS43, mR46, mA46, mS46, mR47, mA47, mS47, mR48, mA48, mS48, mR49, mA49, mS49, mR50, mA50, mS50, mR51, mA51, mS51, mR52, mA52, mS52, mR53, mA53, mS53, mR60, mA60, mS60, mR61, mA61, mS61, Option.bind_some, ofN_add, ofN_mul, ofN_sub, ofN_lt, ofN_le, ofN_inj, ofN_dec, ofN_lt_neg, neg_lt_ofN, ofN_le_neg, neg_le_ofN, ofN_eq_neg, neg_eq_ofN, ofN_irm, ofN_div, l0, l1, l2, l3, l4, l5, l6, l7, l8, l9, l10, l11, l12, l13, l14, l15, l16, l17, l18, l19, l20, l21, l22, l23, l24, l25, l26, l27, l28, l29, l30, l31, l32, l33, l34, l35, l36, l37, l38, l39, l40, l41, l42, l43, l44, l45, l46, l47, l48, l49, l50, l51, l52, l53, l54, l55, l56, l57, l58, l59, l60, l61, l62, l63, l64, l65, l66, l67, l68, l69, l70, l71, l72, l73, l74, l75, l76, l77, l78, l79, l80, l81, l82, l83, l84, l85, l86, l87, l88, l89, l90, l91, l92, l93, l94, l95, l96, l97, l98, l99, l100, l101, l102, l103, l104, l105, l106, l107, l108, l109, l110, l111, l112, l113, l114, l115, l116, l117, l118, l119, l120, l121, l122, l123, l124, l125, l126, l127, l128, l129, l130, l131, l196, l200, l245, l255, l368, l369, l370, l382, l383, l384, l385, l386, l387, l388, l394, l395, l400, l401, l617, l738, l800, l999, l1000, l1500, l1600, l2400, l3195, l5920, l5995, l11990, l99999, l1000000, l100000000, l1000000000, l2000000000, l2147483647]
      rw [hX, if_pos hy]
      refine RdR.bind (fun j hj => (hR.1 j hj).2.2.2) (hpr (i + 1) lv (by omega) hl) (fun i' lv' d' hq => ?_) (sk f (by omega))
      have hrd := hp _ _ _ hq (by omega)
      dsimp only at hrd
      exact ih i' lv' f _ (by omega) hrd.2.1 hrd.2.2.2 (by omega)
    · rw [if_neg hy]
      refine Or.inr ⟨_, _, _, rfl, ?_⟩
      simp (disch := first | omega | assumption) only [X7_readBoth_c5, R_takes h hR hK, if_neg hy, if_true, if_pos, if_neg, mgI, mgL, mpI, mpZ0, mpZ1, mpL, mcT, rZ0, rZ1, mR1, mA1, mS1, mR2, mA2, mS2, mR3, mA3, mS3, mR4, mA4, mS4, mR5, mA5, mS5, mR6, mA6, mS6, mR7, mA7, mS7, mR8, mA8, mS8, mR10, mA10, mS10, mR14, mA14, mS14, mR15, mA15, mS15, mR18, mA18, mS18, mR19, mA19, mS19, mR20, mA20, mS20, mR29, mA29, mS29, mR32, mA32, mS32, mR33, mA33, mS33, mR34, mA34, mS34, mR35, mA35, mS35, mR37, mA37, mS37, mR38, mA38, mS38, mR39, mA39, mS39, mR40, mA40, mS40, mR41, mA41, mS41, mR43, mA43, mS43, mR46, mA46, mS46, mR47, mA47, mS47, mR48, mA48, mS48, mR49, mA49, mS49, mR50, mA50, mS50, mR51, mA51, mS51, mR52, mA52, mS52, mR53, mA53, mS53, mR60, mA60, mS60, mR61, mA61, mS61, Option.bind_some, ofN_add, ofN_mul, ofN_sub, ofN_lt, ofN_le, ofN_inj, ofN_dec, ofN_lt_neg, neg_lt_ofN, ofN_le_neg, neg_le_ofN, ofN_eq_neg, neg_eq_ofN, ofN_irm, ofN_div, l0, l1, l2, l3, l4, l5, l6, l7, l8, l9, l10, l11, l12, l13, l14, l15, l16, l17, l18, l19, l20, l21, l22, l23, l24, l25, l26, l27, l28, l29, l30, l31, l32, l33, l34, l35, l36, l37, l38, l39, l40, l41, l42, l43, l44, l45, l46, l47, l48, l49, l50, l51, l52, l53, l54, l55, l56, l57, l58, l59, l60, l61, l62, l63, l64, l65, l66, l67, l68, l69, l70, l71, l72, l73, l74, l75, l76, l77, l78, l79, l80, l81, l82, l83, l84, l85, l86, l87, l88, l89, l90, l91, l92, l93, l94, l95, l96, l97, l98, l99, l100, l101, l102, l103, l104, l105, l106, l107, l108, l109, l110, l111, l112, l113, l114, l115, l116, l117, l118, l119, l120, l121, l122, l123, l124, l125, l126, l127, l128, l129, l130, l131, l196, l200, l245, l255, l368, l369, l370, l382, l383, l384, l385, l386, l387, l388, l394, l395, l400, l401, l617, l738, l800, l999, l1000, l1500, l1600, l2400, l3195, l5920, l5995, l11990, l99999, l1000000, l100000000, l1000000000, l2000000000, l2147483647]
theorem R_bothS (h : MSh m σ) {rec : Option Nat → Int32 → Hp → Option Hp} {c : Int32} : Skp m σ I L (X7_readBoth rec (some m) c) := by
  intro i lv j hj
  obtain ⟨f, hf⟩ : ∃ f, FUEL = f + 1 := ⟨FUEL - 1, by unfold FUEL; omega⟩
  unfold X7_readBoth
  rw [ct_plain, R_plainS h i lv j hj, Option.bind_some, hf]
  simp (disch := first | omega | assumption) only [X7_readBoth_c5, R_takesS h hj, if_true, mgI, mgL, mpI, mpZ0, mpZ1, mpL, mcT, rZ0, rZ1, mR1, mA1, mS1, mR2, mA2, mS2, mR3, mA3, mS3, mR4, mA4, mS4, mR5, mA5, mS5, mR6, mA6, mS6, mR7, mA7, mS7, mR8, mA8, mS8, mR10, mA10, mS10, mR14, mA14, mS14, mR15, mA15, mS15, mR18, mA18, mS18, mR19, mA19, mS19, mR20, mA20, mS20, mR29, mA29, mS29, mR32, mA32, mS32, mR33, mA33, mS33, mR34, mA34, mS34, mR35, mA35, mS35, mR37, mA37, mS37, mR38, mA38, mS38, mR39, mA39, mS39, mR40, mA40, mS40, mR41, mA41, mS41, mR43, mA43, mS43, mR46, mA46, mS46, mR47, mA47, mS47, mR48, mA48, mS48, mR49, mA49, mS49, mR50, mA50, mS50, mR51, mA51, mS51, mR52, mA52, mS52, mR53, mA53, mS53, mR60, mA60, mS60, mR61, mA61, mS61, Option.bind_some, ofN_add, ofN_mul, ofN_sub, ofN_lt, ofN_le, ofN_inj, ofN_dec, ofN_lt_neg, neg_lt_ofN, ofN_le_neg, neg_le_ofN, ofN_eq_neg, neg_eq_ofN, ofN_irm, ofN_div, l0, l1, l2, l3, l4, l5, l6, l7, l8, l9, l10, l11, l12, l13, l14, l15, l16, l17, l18, l19, l20, l21, l22, l23, l24, l25, l26, l27, l28, l29, l30, l31, l32, l33, l34, l35, l36, l37, l38, l39, l40, l41, l42, l43, l44, l45, l46, l47, l48, l49, l50, l51, l52, l53, l54, l55, l56, l57, l58, l59, l60, l61, l62, l63, l64, l65, l66, l67, l68, l69, l70, l71, l72, l73, l74, l75, l76, l77, l78, l79, l80, l81, l82, l83, l84, l85, l86, l87, l88, l89, l90, l91, l92, l93, l94, l95, l96, l97, l98, l99, l100, l101, l102, l103, l104, l105, l106, l107, l108, l109, l110, l111, l112, l113, l114, l115, l116, l117, l118, l119, l120, l121, l122, l123, l124, l125, l126, l127, l128, l129, l130, l131, l196, l200, l245, l255, l368, l369, l370, l382, l383, l384, l385, l386, l387, l388, l394, l395, l400, l401, l617, l738, l800, l999, l1000, l1500, l1600, l2400, l3195, l5920, l5995, l11990, l99999, l1000000, l100000000, l1000000000, l2000000000, l2147483647]
theorem ct_both {o : Option Nat} {c : Int32} {τ : Hp} {rec : Option Nat → Int32 → Hp → Option Hp} {k : Hp → Option Hp} : ((cT τ o 7).bind fun _ => (X7_readBoth rec o c τ).bind k) = (X7_readBoth rec o c τ).bind k := by
  unfold X7_readBoth
  cases cT τ o 7 <;> rfl
theorem R_both (h : MSh m σ) (hR : RdC m I ord cd vl fr T) (hK : Tk cd vl T) {e : Nat} (he : e ≤ 8) {rec : Option Nat → Int32 → Hp → Option Hp} (hrec : ∀ e', e = e' + 1 → Skp m σ I L (rec (some m) (ofN (8 - e'))) ∧ ∀ i lv, i ≤ T → lv ≤ 50 → RdR m σ I L fr T (pTest ord cd vl e' i lv) (rec (some m) (ofN (8 - e')) (hw σ (stR m I i lv (-ofN 1)) L))) (hrd : ∀ r, recT ord cd vl e = some r → RdT T r) (hi : i ≤ T) (hl : lv ≤ 50) : RdR m σ I L fr T (pBoth ord cd vl e (recT ord cd vl e) i lv) (X7_readBoth rec (some m) (ofN (8 - e)) (hw σ (stR m I i lv (-ofN 1)) L)) := by
  have h1 := hK.1
  have sk : Skp m σ I L (X7_readBoth_c5 rec (some m) (ofN (8 - e)) FUEL) := by
    intro i lv j hj
    obtain ⟨f, hf⟩ : ∃ f, FUEL = f + 1 := ⟨FUEL - 1, by unfold FUEL; omega⟩
    rw [hf]
    simp (disch := first | omega | assumption) only [X7_readBoth_c5, R_takesS h hj, if_true, mgI, mgL, mpI, mpZ0, mpZ1, mpL, mcT, rZ0, rZ1, mR1, mA1, mS1, mR2, mA2, mS2, mR3, mA3, mS3, mR4, mA4, mS4, mR5, mA5, mS5, mR6, mA6, mS6, mR7, mA7, mS7, mR8, mA8, mS8, mR10, mA10, mS10, mR14, mA14, mS14, mR15, mA15, mS15, mR18, mA18, mS18, mR19, mA19, mS19, mR20, mA20, mS20, mR29, mA29, mS29, mR32, mA32, mS32, mR33, mA33, mS33, mR34, mA34, mS34, mR35, mA35, mS35, mR37, mA37, mS37, mR38, mA38, mS38, mR39, mA39, mS39, mR40, mA40, mS40, mR41, mA41, mS41, mR43, mA43, mS43, mR46, mA46, mS46, mR47, mA47, mS47, mR48, mA48, mS48, mR49, mA49, mS49, mR50, mA50, mS50, mR51, mA51, mS51, mR52, mA52, mS52, mR53, mA53, mS53, mR60, mA60, mS60, mR61, mA61, mS61, Option.bind_some, ofN_add, ofN_mul, ofN_sub, ofN_lt, ofN_le, ofN_inj, ofN_dec, ofN_lt_neg, neg_lt_ofN, ofN_le_neg, neg_le_ofN, ofN_eq_neg, neg_eq_ofN, ofN_irm, ofN_div, l0, l1, l2, l3, l4, l5, l6, l7, l8, l9, l10, l11, l12, l13, l14, l15, l16, l17, l18, l19, l20, l21, l22, l23, l24, l25, l26, l27, l28, l29, l30, l31, l32, l33, l34, l35, l36, l37, l38, l39, l40, l41, l42, l43, l44, l45, l46, l47, l48, l49, l50, l51, l52, l53, l54, l55, l56, l57, l58, l59, l60, l61, l62, l63, l64, l65, l66, l67, l68, l69, l70, l71, l72, l73, l74, l75, l76, l77, l78, l79, l80, l81, l82, l83, l84, l85, l86, l87, l88, l89, l90, l91, l92, l93, l94, l95, l96, l97, l98, l99, l100, l101, l102, l103, l104, l105, l106, l107, l108, l109, l110, l111, l112, l113, l114, l115, l116, l117, l118, l119, l120, l121, l122, l123, l124, l125, l126, l127, l128, l129, l130, l131, l196, l200, l245, l255, l368, l369, l370, l382, l383, l384, l385, l386, l387, l388, l394, l395, l400, l401, l617, l738, l800, l999, l1000, l1500, l1600, l2400, l3195, l5920, l5995, l11990, l99999, l1000000, l100000000, l1000000000, l2000000000, l2147483647]
  unfold X7_readBoth pBoth
  rw [ct_plain]
  refine RdR.bind (fun j hj => (hR.1 j hj).2.2.2) (R_plain h hR hK he hrec hi hl) (fun i' lv' d hq => ?_) sk
  have hq' := pPlain_rd hK hrd _ _ _ hq hi
  dsimp only at hq'
  exact R_bothF h hR hK (pPlain_rd hK hrd) (fun i lv hi hl => R_plain h hR hK he hrec hi hl) 500 i' lv' FUEL d (by omega) hq'.2.1 hq'.2.2.2 (by unfold FUEL; omega)
theorem R_testF (h : MSh m σ) (hR : RdC m I ord cd vl fr T) (hK : Tk cd vl T) {rec : Option Nat → Int32 → Hp → Option Hp} {part : Nat → Nat → PR DT} {c : Int32} (hp : RdT T part) (hpr : ∀ i lv, i ≤ T → lv ≤ 50 → RdR m σ I L fr T (part i lv) (X7_readBoth rec (some m) c (hw σ (stR m I i lv (-ofN 1)) L))) : ∀ (r i lv fuel : Nat) (d : DT), T < i + r → i ≤ T → lv ≤ 50 → r < fuel →
    RdR m σ I L fr T (pTRow cd 4 orD part r i lv d) (X7_readTest_c5 rec (some m) c fuel (hw σ (stR m I i lv (-ofN 1)) L)) := by
  have h1 := hK.1
  have sk : ∀ fuel, 0 < fuel → Skp m σ I L (X7_readTest_c5 rec (some m) c fuel) := by
    intro fuel hf i lv j hj
    obtain ⟨f, rfl⟩ : ∃ f, fuel = f + 1 := ⟨fuel - 1, by omega⟩
    simp (disch := first | omega | assumption) only [X7_readTest_c5, R_takesS h hj, if_true, mgI, mgL, mpI, mpZ0, mpZ1, mpL, mcT, rZ0, rZ1, mR1, mA1, mS1, mR2, mA2, mS2, mR3, mA3, mS3, mR4, mA4, mS4, mR5, mA5, mS5, mR6, mA6, mS6, mR7, mA7, mS7, mR8, mA8, mS8, mR10, mA10, mS10, mR14, mA14, mS14, mR15, mA15, mS15, mR18, mA18, mS18, mR19, mA19, mS19, mR20, mA20, mS20, mR29, mA29, mS29, mR32, mA32, mS32, mR33, mA33, mS33, mR34, mA34, mS34, mR35, mA35, mS35, mR37, mA37, mS37, mR38, mA38, mS38, mR39, mA39, mS39, mR40, mA40, mS40, mR41, mA41, mS41, mR43, mA43, mS43, mR46, mA46, mS46, mR47, mA47, mS47, mR48, mA48, mS48, mR49, mA49, mS49, mR50, mA50, mS50, mR51, mA51, mS51, mR52, mA52, mS52, mR53, mA53, mS53, mR60, mA60, mS60, mR61, mA61, mS61, Option.bind_some, ofN_add, ofN_mul, ofN_sub, ofN_lt, ofN_le, ofN_inj, ofN_dec, ofN_lt_neg, neg_lt_ofN, ofN_le_neg, neg_le_ofN, ofN_eq_neg, neg_eq_ofN, ofN_irm, ofN_div, l0, l1, l2, l3, l4, l5, l6, l7, l8, l9, l10, l11, l12, l13, l14, l15, l16, l17, l18, l19, l20, l21, l22, l23, l24, l25, l26, l27, l28, l29, l30, l31, l32, l33, l34, l35, l36, l37, l38, l39, l40, l41, l42, l43, l44, l45, l46, l47, l48, l49, l50, l51, l52, l53, l54, l55, l56, l57, l58, l59, l60, l61, l62, l63, l64, l65, l66, l67, l68, l69, l70, l71, l72, l73, l74, l75, l76, l77, l78, l79, l80, l81, l82, l83, l84, l85, l86, l87, l88, l89, l90, l91, l92, l93, l94, l95, l96, l97, l98, l99, l100, l101, l102, l103, l104, l105, l106, l107, l108, l109, l110, l111, l112, l113, l114, l115, l116, l117, l118, l119, l120, l121, l122, l123, l124, l125, l126, l127, l128, l129, l130, l131, l196, l200, l245, l255, l368, l369, l370, l382, l383, l384, l385, l386, l387, l388, l394, l395, l400, l401, l617, l738, l800, l999, l1000, l1500, l1600, l2400, l3195, l5920, l5995, l11990, l99999, l1000000, l100000000, l1000000000, l2000000000, l2147483647]
  intro r
  induction r with
  | zero => intro i lv fuel d hr hi; omega
  | succ r ih =>
    intro i lv fuel d hr hi hl hf
    obtain ⟨f, rfl⟩ : ∃ f, fuel = f + 1 := ⟨fuel - 1, by omega⟩
    unfold pTRow
    by_cases hy : cd i = 4
    · have hi2 : i < T := hK.pos (by omega)
      have hX : X7_readTest_c5 rec (some m) c (f + 1) (hw σ (stR m I i lv (-ofN 1)) L) = (X7_readBoth rec (some m) c (hw σ (stR m I (i + 1) lv (-ofN 1)) L)).bind (X7_readTest_c5 rec (some m) c f) := by
        simp (disch := first | omega | assumption) only [X7_readTest_c5, R_takes h hR hK, hy, ct_both, if_true, if_pos, if_neg, mgI, mgL, mpI, mpZ0, mpZ1, mpL, mcT, rZ0, rZ1, mR1, mA1, mS1, mR2, mA2, mS2, mR3, mA3, mS3, mR4, mA4, mS4, mR5, mA5, mS5, mR6, mA6, mS6, mR7, mA7, mS7, mR8, mA8, mS8, mR10, mA10, mS10, mR14, mA14, mS14, mR15, mA15, mS15, mR18, mA18, mS18, mR19, mA19, mS19, mR20, mA20, mS20, mR29, mA29, mS29, mR32, mA32, mS32, mR33, mA33, mS33, mR34, mA34, mS34, mR35, mA35, mS35, mR37, mA37, mS37, mR38, mA38, mS38, mR39, mA39, mS39, mR40, mA40, mS40, mR41, mA41, mS41, mR43, mA43, mS43, mR46, mA46, mS46, mR47, mA47, mS47, mR48, mA48, mS48, mR49, mA49, mS49, mR50, mA50, mS50, mR51, mA51, mS51, mR52, mA52, mS52, mR53, mA53, mS53, mR60, mA60, mS60, mR61, mA61, mS61, Option.bind_some, ofN_add, ofN_mul, ofN_sub, ofN_lt, ofN_le, ofN_inj, ofN_dec, ofN_lt_neg, neg_lt_ofN, ofN_le_neg, neg_le_ofN, ofN_eq_neg, neg_eq_ofN, ofN_irm, ofN_div, l0, l1, l2, l3, l4, l5, l6, l7, l8, l9, l10, l11, l12, l13, l14, l15, l16, l17, l18, l19, l20, l21, l22, l23, l24, l25, l26, l27, l28, l29, l30, l31, l32, l33, l34, l35, l36, l37, l38, l39, l40, l41, l42, l43, l44, l45, l46, l47, l48, l49, l50, l51, l52, l53, l54, l55, l56, l57, l58, l59, l60, l61, l62, l63, l64, l65, l66, l67, l68, l69, l70, l71, l72, l73, l74, l75, l76, l77, l78, l79, l80, l81, l82, l83, l84, l85, l86, l87, l88, l89, l90, l91, l92, l93, l94, l95, l96, l97, l98, l99, l100, l101, l102, l103, l104, l105, l106, l107, l108, l109, l110, l111, l112, l113, l114, l115, l116, l117, l118, l119, l120, l121, l122, l123, l124, l125, l126, l127, l128, l129, l130, l131, l196, l200, l245, l255, l368, l369, l370, l382, l383, l384, l385, l386, l387, l388, l394, l395, l400, l401, l617, l738, l800, l999, l1000, l1500, l1600, l2400, l3195, l5920, l5995, l11990, l99999, l1000000, l100000000, l1000000000, l2000000000, l2147483647]
      rw [hX, if_pos hy]
      refine RdR.bind (fun j hj => (hR.1 j hj).2.2.2) (hpr (i + 1) lv (by omega) hl) (fun i' lv' d' hq => ?_) (sk f (by omega))
      have hrd := hp _ _ _ hq (by omega)
      dsimp only at hrd
      exact ih i' lv' f _ (by omega) hrd.2.1 hrd.2.2.2 (by omega)
    · rw [if_neg hy]
      refine Or.inr ⟨_, _, _, rfl, ?_⟩
      simp (disch := first | omega | assumption) only [X7_readTest_c5, R_takes h hR hK, if_neg hy, if_true, if_pos, if_neg, mgI, mgL, mpI, mpZ0, mpZ1, mpL, mcT, rZ0, rZ1, mR1, mA1, mS1, mR2, mA2, mS2, mR3, mA3, mS3, mR4, mA4, mS4, mR5, mA5, mS5, mR6, mA6, mS6, mR7, mA7, mS7, mR8, mA8, mS8, mR10, mA10, mS10, mR14, mA14, mS14, mR15, mA15, mS15, mR18, mA18, mS18, mR19, mA19, mS19, mR20, mA20, mS20, mR29, mA29, mS29, mR32, mA32, mS32, mR33, mA33, mS33, mR34, mA34, mS34, mR35, mA35, mS35, mR37, mA37, mS37, mR38, mA38, mS38, mR39, mA39, mS39, mR40, mA40, mS40, mR41, mA41, mS41, mR43, mA43, mS43, mR46, mA46, mS46, mR47, mA47, mS47, mR48, mA48, mS48, mR49, mA49, mS49, mR50, mA50, mS50, mR51, mA51, mS51, mR52, mA52, mS52, mR53, mA53, mS53, mR60, mA60, mS60, mR61, mA61, mS61, Option.bind_some, ofN_add, ofN_mul, ofN_sub, ofN_lt, ofN_le, ofN_inj, ofN_dec, ofN_lt_neg, neg_lt_ofN, ofN_le_neg, neg_le_ofN, ofN_eq_neg, neg_eq_ofN, ofN_irm, ofN_div, l0, l1, l2, l3, l4, l5, l6, l7, l8, l9, l10, l11, l12, l13, l14, l15, l16, l17, l18, l19, l20, l21, l22, l23, l24, l25, l26, l27, l28, l29, l30, l31, l32, l33, l34, l35, l36, l37, l38, l39, l40, l41, l42, l43, l44, l45, l46, l47, l48, l49, l50, l51, l52, l53, l54, l55, l56, l57, l58, l59, l60, l61, l62, l63, l64, l65, l66, l67, l68, l69, l70, l71, l72, l73, l74, l75, l76, l77, l78, l79, l80, l81, l82, l83, l84, l85, l86, l87, l88, l89, l90, l91, l92, l93, l94, l95, l96, l97, l98, l99, l100, l101, l102, l103, l104, l105, l106, l107, l108, l109, l110, l111, l112, l113, l114, l115, l116, l117, l118, l119, l120, l121, l122, l123, l124, l125, l126, l127, l128, l129, l130, l131, l196, l200, l245, l255, l368, l369, l370, l382, l383, l384, l385, l386, l387, l388, l394, l395, l400, l401, l617, l738, l800, l999, l1000, l1500, l1600, l2400, l3195, l5920, l5995, l11990, l99999, l1000000, l100000000, l1000000000, l2000000000, l2147483647]
theorem R_testS (h : MSh m σ) {c : Int32} : ∀ d, 0 < d → Skp m σ I L (X7_readTest d (some m) c)
  | d + 1, _ => by
    intro i lv j hj
    obtain ⟨f, hf⟩ : ∃ f, FUEL = f + 1 := ⟨FUEL - 1, by unfold FUEL; omega⟩
    show X7_readTest_b (X7_readTest d) (some m) c _ = _
    unfold X7_readTest_b
    rw [ct_both, R_bothS h i lv j hj, Option.bind_some, hf]
    simp (disch := first | omega | assumption) only [X7_readTest_c5, R_takesS h hj, if_true, mgI, mgL, mpI, mpZ0, mpZ1, mpL, mcT, rZ0, rZ1, mR1, mA1, mS1, mR2, mA2, mS2, mR3, mA3, mS3, mR4, mA4, mS4, mR5, mA5, mS5, mR6, mA6, mS6, mR7, mA7, mS7, mR8, mA8, mS8, mR10, mA10, mS10, mR14, mA14, mS14, mR15, mA15, mS15, mR18, mA18, mS18, mR19, mA19, mS19, mR20, mA20, mS20, mR29, mA29, mS29, mR32, mA32, mS32, mR33, mA33, mS33, mR34, mA34, mS34, mR35, mA35, mS35, mR37, mA37, mS37, mR38, mA38, mS38, mR39, mA39, mS39, mR40, mA40, mS40, mR41, mA41, mS41, mR43, mA43, mS43, mR46, mA46, mS46, mR47, mA47, mS47, mR48, mA48, mS48, mR49, mA49, mS49, mR50, mA50, mS50, mR51, mA51, mS51, mR52, mA52, mS52, mR53, mA53, mS53, mR60, mA60, mS60, mR61, mA61, mS61, Option.bind_some, ofN_add, ofN_mul, ofN_sub, ofN_lt, ofN_le, ofN_inj, ofN_dec, ofN_lt_neg, neg_lt_ofN, ofN_le_neg, neg_le_ofN, ofN_eq_neg, neg_eq_ofN, ofN_irm, ofN_div, l0, l1, l2, l3, l4, l5, l6, l7, l8, l9, l10, l11, l12, l13, l14, l15, l16, l17, l18, l19, l20, l21, l22, l23, l24, l25, l26, l27, l28, l29, l30, l31, l32, l33, l34, l35, l36, l37, l38, l39, l40, l41, l42, l43, l44, l45, l46, l47, l48, l49, l50, l51, l52, l53, l54, l55, l56, l57, l58, l59, l60, l61, l62, l63, l64, l65, l66, l67, l68, l69, l70, l71, l72, l73, l74, l75, l76, l77, l78, l79, l80, l81, l82, l83, l84, l85, l86, l87, l88, l89, l90, l91, l92, l93, l94, l95, l96, l97, l98, l99, l100, l101, l102, l103, l104, l105, l106, l107, l108, l109, l110, l111, l112, l113, l114, l115, l116, l117, l118, l119, l120, l121, l122, l123, l124, l125, l126, l127, l128, l129, l130, l131, l196, l200, l245, l255, l368, l369, l370, l382, l383, l384, l385, l386, l387, l388, l394, l395, l400, l401, l617, l738, l800, l999, l1000, l1500, l1600, l2400, l3195, l5920, l5995, l11990, l99999, l1000000, l100000000, l1000000000, l2000000000, l2147483647]
theorem R_test (h : MSh m σ) (hR : RdC m I ord cd vl fr T) (hK : Tk cd vl T) : ∀ (e d : Nat), e ≤ 8 → e < d → ∀ i lv, i ≤ T → lv ≤ 50 → RdR m σ I L fr T (pTest ord cd vl e i lv) (X7_readTest d (some m) (ofN (8 - e)) (hw σ (stR m I i lv (-ofN 1)) L))
  | e, d + 1, he, hd => by
    intro i lv hi hl
    have h1 := hK.1
    have hrec : ∀ e', e = e' + 1 → Skp m σ I L (X7_readTest d (some m) (ofN (8 - e'))) ∧ ∀ i lv, i ≤ T → lv ≤ 50 → RdR m σ I L fr T (pTest ord cd vl e' i lv) (X7_readTest d (some m) (ofN (8 - e')) (hw σ (stR m I i lv (-ofN 1)) L)) :=
      fun e' h9 => ⟨R_testS h d (by omega), R_test h hR hK e' d (by omega) (by omega)⟩
    have hrd : ∀ r, recT ord cd vl e = some r → RdT T r := by
      intro r hr
      cases e with
      | zero => cases hr
      | succ e => cases hr; exact pTest_rd hK e
    have ht := fun i lv hi hl => R_both (L := L) (i := i) (lv := lv) h hR hK he hrec hrd hi hl
    show RdR m σ I L fr T _ (X7_readTest_b (X7_readTest d) (some m) (ofN (8 - e)) _)
    rw [pTest_eq]
    unfold X7_readTest_b pTest1
    rw [ct_both]
    have sk : Skp m σ I L (X7_readTest_c5 (X7_readTest d) (some m) (ofN (8 - e)) FUEL) := by
      intro i lv j hj
      obtain ⟨f, hf⟩ : ∃ f, FUEL = f + 1 := ⟨FUEL - 1, by unfold FUEL; omega⟩
      rw [hf]
      simp (disch := first | omega | assumption) only [X7_readTest_c5, R_takesS h hj, if_true, mgI, mgL, mpI, mpZ0, mpZ1, mpL, mcT, rZ0, rZ1, mR1, mA1, mS1, mR2, mA2, mS2, mR3, mA3, mS3, mR4, mA4, mS4, mR5, mA5, mS5, mR6, mA6, mS6, mR7, mA7, mS7, mR8, mA8, mS8, mR10, mA10, mS10, mR14, mA14, mS14, mR15, mA15, mS15, mR18, mA18, mS18, mR19, mA19, mS19, mR20, mA20, mS20, mR29, mA29, mS29, mR32, mA32, mS32, mR33, mA33, mS33, mR34, mA34, mS34, mR35, mA35, mS35, mR37, mA37, mS37, mR38, mA38, mS38, mR39, mA39, mS39, mR40, mA40, mS40, mR41, mA41, mS41, mR43, mA43, mS43, mR46, mA46, mS46, mR47, mA47, mS47, mR48, mA48, mS48, mR49, mA49, mS49, mR50, mA50, mS50, mR51, mA51, mS51, mR52, mA52, mS52, mR53, mA53, mS53, mR60, mA60, mS60, mR61, mA61, mS61, Option.bind_some, ofN_add, ofN_mul, ofN_sub, ofN_lt, ofN_le, ofN_inj, ofN_dec, ofN_lt_neg, neg_lt_ofN, ofN_le_neg, neg_le_ofN, ofN_eq_neg, neg_eq_ofN, ofN_irm, ofN_div, l0, l1, l2, l3, l4, l5, l6, l7, l8, l9, l10, l11, l12, l13, l14, l15, l16, l17, l18, l19, l20, l21, l22, l23, l24, l25, l26, l27, l28, l29, l30, l31, l32, l33, l34, l35, l36, l37, l38, l39, l40, l41, l42, l43, l44, l45, l46, l47, l48, l49, l50, l51, l52, l53, l54, l55, l56, l57, l58, l59, l60, l61, l62, l63, l64, l65, l66, l67, l68, l69, l70, l71, l72, l73, l74, l75, l76, l77, l78, l79, l80, l81, l82, l83, l84, l85, l86, l87, l88, l89, l90, l91, l92, l93, l94, l95, l96, l97, l98, l99, l100, l101, l102, l103, l104, l105, l106, l107, l108, l109, l110, l111, l112, l113, l114, l115, l116, l117, l118, l119, l120, l121, l122, l123, l124, l125, l126, l127, l128, l129, l130, l131, l196, l200, l245, l255, l368, l369, l370, l382, l383, l384, l385, l386, l387, l388, l394, l395, l400, l401, l617, l738, l800, l999, l1000, l1500, l1600, l2400, l3195, l5920, l5995, l11990, l99999, l1000000, l100000000, l1000000000, l2000000000, l2147483647]
    refine RdR.bind (fun j hj => (hR.1 j hj).2.2.2) (ht i lv hi hl) (fun i' lv' d' hq => ?_) sk
    have hq' := pBoth_rd hK hrd _ _ _ hq hi
    dsimp only at hq'
    exact R_testF h hR hK (pBoth_rd hK hrd) ht 500 i' lv' FUEL d' (by omega) hq'.2.1 hq'.2.2.2 (by unfold FUEL; omega)
end MREAD2
