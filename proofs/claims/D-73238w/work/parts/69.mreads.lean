set_option maxRecDepth 100000
/-! THE MODEL's READING of texts -/
/-- what an order says: its word's code, sums, times, test -/
abbrev OD : Type := (Nat × List DS) × Nat × Option DT
section PORD
variable (cd vl : Nat → Nat)
def pBehind (c i lv : Nat) : PR DS := if cd i = c then pSum true cd vl 8 (i + 1) lv else .inl i
def pAct (i lv : Nat) : PR (Nat × List DS) :=
  if cd i = 17 then pBd (pSum true cd vl 8 (i + 1) lv) fun i1 lv1 d1 => pBd (pBehind cd vl 18 i1 lv1) fun i2 lv2 d2 => .inr (i2, lv2, (17, [d1, d2]))
  else if cd i = 21 then pBd (pSum true cd vl 8 (i + 1) lv) fun i1 lv1 d1 => pBd (pBehind cd vl 18 i1 lv1) fun i2 lv2 d2 => .inr (i2, lv2, (21, [d1, d2]))
  else if cd i = 19 then pBd (pSum true cd vl 8 (i + 1) lv) fun i1 lv1 d1 => pBd (pBehind cd vl 20 i1 lv1) fun i2 lv2 d2 => pBd (pBehind cd vl 18 i2 lv2) fun i3 lv3 d3 => .inr (i3, lv3, (19, [d1, d2, d3]))
  else if cd i = 22 then .inr (i + 1, lv, (22, []))
  else .inl i
def pTimes (i lv : Nat) : PR Nat := if cd i = 23 then pNum cd vl 1 20 (i + 1) lv else .inr (i, lv, 1)
def pOrd (i lv : Nat) : PR OD := pBd (pAct cd vl i lv) fun i1 lv1 a => pBd (pTimes cd vl i1 lv1) fun i2 lv2 n => pBd (pIf true cd vl i2 lv2) fun i3 lv3 t => .inr (i3, lv3, (a, n, t))
end PORD
section MREADS
variable {m : Nat} {σ : Hp} {I : IM} {L : LM} {ord : Bool} {cd vl fr : Nat → Nat} {T i lv : Nat} {b : Int32}
theorem ct_test {α : Type} {o : Option Nat} {c : Int32} {τ : Hp} {k : Hp → Option α} : ((cT τ o 7).bind fun _ => (X7_readTest 12 o c τ).bind k) = (X7_readTest 12 o c τ).bind k := by
  show ((cT τ o 7).bind fun _ => (X7_readTest_b (X7_readTest 11) o c τ).bind k) = (X7_readTest_b (X7_readTest 11) o c τ).bind k
  unfold X7_readTest_b
  cases cT τ o 7 <;> rfl
theorem bind_id {α : Type} {o : Option α} : (o.bind fun q => some q) = o := by cases o <;> rfl
theorem R_if (h : MSh m σ) (hR : RdC m I ord cd vl fr T) (hK : Tk cd vl T) (hi : i ≤ T) (hl : lv ≤ 50) : RdR m σ I L fr T (pIf ord cd vl i lv) (X7_readClause_c21 (some m) (hw σ (stR m I i lv (-ofN 1)) L)) := by
  have h1 := hK.1
  unfold pIf
  by_cases hy : cd i = 3
  · have hi2 : i < T := hK.pos (by omega)
    rw [if_pos hy]
    have hX : X7_readClause_c21 (some m) (hw σ (stR m I i lv (-ofN 1)) L) = X7_readTest 12 (some m) (ofN (8 - 8)) (hw σ (stR m I (i + 1) lv (-ofN 1)) L) := by
      simp (disch := first | omega | assumption) only [X7_readClause_c21, R_takes h hR hK, hy, bind_id, if_true, if_neg, mgI, mgL, mpI, mpZ0, mpZ1, mpL, mcT, rZ0, rZ1, mR1, mA1, mS1, mR2, mA2, mS2, mR3, mA3, mS3, mR4, mA4, mS4, mR5, mA5, mS5, mR6, mA6, mS6, mR7, mA7, mS7, mR8, mA8, mS8, mR10, mA10, mS10, mR14, mA14, mS14, mR15, mA15, mS15, mR18, mA18, mS18, mR19, mA19, mS19, mR20, mA20, mS20, mR29, mA29, mS29, mR32, mA32, mS32, mR33, mA33, mS33, mR34, mA34, mS34, mR35, mA35, mS35, mR37, mA37, mS37, mR38, mA38, mS38, mR39, mA39, mS39, mR40, mA40, mS40, mR41, mA41, mS41, mR43, mA43, mS43, mR46, mA46, mS46, mR47, mA47, mS47, mR48, mA48, mS48, mR49, mA49, mS49, mR50, mA50, mS50, mR51, mA51, mS51, mR52, mA52, mS52, mR53, mA53, mS53, mR60, mA60, mS60, mR61, mA61, mS61, Option.bind_some, ofN_add, ofN_mul, ofN_sub, ofN_lt, ofN_le, ofN_inj, ofN_dec, ofN_lt_neg, neg_lt_ofN, ofN_le_neg, neg_le_ofN, ofN_eq_neg, neg_eq_ofN, ofN_irm, ofN_div, l0, l1, l2, l3, l4, l5, l6, l7, l8, l9, l10, l11, l12, l13, l14, l15, l16, l17, l18, l19, l20, l21, l22, l23, l24, l25, l26, l27, l28, l29, l30, l31, l32, l33, l34, l35, l36, l37, l38, l39, l40, l41, l42, l43, l44, l45, l46, l47, l48, l49, l50, l51, l52, l53, l54, l55, l56, l57, l58, l59, l60, l61, l62, l63, l64, l65, l66, l67, l68, l69, l70, l71, l72, l73, l74, l75, l76, l77, l78, l79, l80, l81, l82, l83, l84, l85, l86, l87, l88, l89, l90, l91, l92, l93, l94, l95, l96, l97, l98, l99, l100, l101, l102, l103, l104, l105, l106, l107, l108, l109, l110, l111, l112, l113, l114, l115, l116, l117, l118, l119, l120, l121, l122, l123, l124, l125, l126, l127, l128, l129, l130, l131, l196, l200, l245, l255, l368, l369, l370, l382, l383, l384, l385, l386, l387, l388, l394, l395, l400, l401, l617, l738, l800, l999, l1000, l1500, l1600, l2400, l3195, l5920, l5995, l11990, l99999, l1000000, l100000000, l1000000000, l2000000000, l2147483647]
    rw [hX]
    exact RdR.map (R_test h hR hK 8 12 (by omega) (by omega) (i + 1) lv (by omega) hl)
  · rw [if_neg hy]
    refine Or.inr ⟨_, _, _, rfl, ?_⟩
    simp (disch := first | omega | assumption) only [X7_readClause_c21, R_takes h hR hK, if_neg hy, if_true, mgI, mgL, mpI, mpZ0, mpZ1, mpL, mcT, rZ0, rZ1, mR1, mA1, mS1, mR2, mA2, mS2, mR3, mA3, mS3, mR4, mA4, mS4, mR5, mA5, mS5, mR6, mA6, mS6, mR7, mA7, mS7, mR8, mA8, mS8, mR10, mA10, mS10, mR14, mA14, mS14, mR15, mA15, mS15, mR18, mA18, mS18, mR19, mA19, mS19, mR20, mA20, mS20, mR29, mA29, mS29, mR32, mA32, mS32, mR33, mA33, mS33, mR34, mA34, mS34, mR35, mA35, mS35, mR37, mA37, mS37, mR38, mA38, mS38, mR39, mA39, mS39, mR40, mA40, mS40, mR41, mA41, mS41, mR43, mA43, mS43, mR46, mA46, mS46, mR47, mA47, mS47, mR48, mA48, mS48, mR49, mA49, mS49, mR50, mA50, mS50, mR51, mA51, mS51, mR52, mA52, mS52, mR53, mA53, mS53, mR60, mA60, mS60, mR61, mA61, mS61, Option.bind_some, ofN_add, ofN_mul, ofN_sub, ofN_lt, ofN_le, ofN_inj, ofN_dec, ofN_lt_neg, neg_lt_ofN, ofN_le_neg, neg_le_ofN, ofN_eq_neg, neg_eq_ofN, ofN_irm, ofN_div, l0, l1, l2, l3, l4, l5, l6, l7, l8, l9, l10, l11, l12, l13, l14, l15, l16, l17, l18, l19, l20, l21, l22, l23, l24, l25, l26, l27, l28, l29, l30, l31, l32, l33, l34, l35, l36, l37, l38, l39, l40, l41, l42, l43, l44, l45, l46, l47, l48, l49, l50, l51, l52, l53, l54, l55, l56, l57, l58, l59, l60, l61, l62, l63, l64, l65, l66, l67, l68, l69, l70, l71, l72, l73, l74, l75, l76, l77, l78, l79, l80, l81, l82, l83, l84, l85, l86, l87, l88, l89, l90, l91, l92, l93, l94, l95, l96, l97, l98, l99, l100, l101, l102, l103, l104, l105, l106, l107, l108, l109, l110, l111, l112, l113, l114, l115, l116, l117, l118, l119, l120, l121, l122, l123, l124, l125, l126, l127, l128, l129, l130, l131, l196, l200, l245, l255, l368, l369, l370, l382, l383, l384, l385, l386, l387, l388, l394, l395, l400, l401, l617, l738, l800, l999, l1000, l1500, l1600, l2400, l3195, l5920, l5995, l11990, l99999, l1000000, l100000000, l1000000000, l2000000000, l2147483647]
theorem R_ifS (h : MSh m σ) : Skp m σ I L (X7_readClause_c21 (some m)) := by
  intro i lv j hj
  simp (disch := first | omega | assumption) only [X7_readClause_c21, R_takesS h hj, if_true, mgI, mgL, mpI, mpZ0, mpZ1, mpL, mcT, rZ0, rZ1, mR1, mA1, mS1, mR2, mA2, mS2, mR3, mA3, mS3, mR4, mA4, mS4, mR5, mA5, mS5, mR6, mA6, mS6, mR7, mA7, mS7, mR8, mA8, mS8, mR10, mA10, mS10, mR14, mA14, mS14, mR15, mA15, mS15, mR18, mA18, mS18, mR19, mA19, mS19, mR20, mA20, mS20, mR29, mA29, mS29, mR32, mA32, mS32, mR33, mA33, mS33, mR34, mA34, mS34, mR35, mA35, mS35, mR37, mA37, mS37, mR38, mA38, mS38, mR39, mA39, mS39, mR40, mA40, mS40, mR41, mA41, mS41, mR43, mA43, mS43, mR46, mA46, mS46, mR47, mA47, mS47, mR48, mA48, mS48, mR49, mA49, mS49, mR50, mA50, mS50, mR51, mA51, mS51, mR52, mA52, mS52, mR53, mA53, mS53, mR60, mA60, mS60, mR61, mA61, mS61, Option.bind_some, ofN_add, ofN_mul, ofN_sub, ofN_lt, ofN_le, ofN_inj, ofN_dec, ofN_lt_neg, neg_lt_ofN, ofN_le_neg, neg_le_ofN, ofN_eq_neg, neg_eq_ofN, ofN_irm, ofN_div, l0, l1, l2, l3, l4, l5, l6, l7, l8, l9, l10, l11, l12, l13, l14, l15, l16, l17, l18, l19, l20, l21, l22, l23, l24, l25, l26, l27, l28, l29, l30, l31, l32, l33, l34, l35, l36, l37, l38, l39, l40, l41, l42, l43, l44, l45, l46, l47, l48, l49, l50, l51, l52, l53, l54, l55, l56, l57, l58, l59, l60, l61, l62, l63, l64, l65, l66, l67, l68, l69, l70, l71, l72, l73, l74, l75, l76, l77, l78, l79, l80, l81, l82, l83, l84, l85, l86, l87, l88, l89, l90, l91, l92, l93, l94, l95, l96, l97, l98, l99, l100, l101, l102, l103, l104, l105, l106, l107, l108, l109, l110, l111, l112, l113, l114, l115, l116, l117, l118, l119, l120, l121, l122, l123, l124, l125, l126, l127, l128, l129, l130, l131, l196, l200, l245, l255, l368, l369, l370, l382, l383, l384, l385, l386, l387, l388, l394, l395, l400, l401, l617, l738, l800, l999, l1000, l1500, l1600, l2400, l3195, l5920, l5995, l11990, l99999, l1000000, l100000000, l1000000000, l2000000000, l2147483647]
theorem ct_c21 {o : Option Nat} {τ : Hp} : ((cT τ o 7).bind fun _ => X7_readClause_c21 o τ) = X7_readClause_c21 o τ := by
  unfold X7_readClause_c21
  cases cT τ o 7 <;> rfl
theorem R_clause (h : MSh m σ) (hR : RdC m I ord cd vl fr T) (hK : Tk cd vl T) (hi : i ≤ T) (hl : lv ≤ 50) : RdR m σ I L fr T (pCl ord cd vl i lv) (X7_readClause (some m) (hw σ (stR m I i lv (-ofN 1)) L)) := by
  have h1 := hK.1
  unfold pCl
  by_cases hy : cd i = 1
  · have hi2 : i < T := hK.pos (by omega)
    rw [if_pos hy]
    have hX : X7_readClause (some m) (hw σ (stR m I i lv (-ofN 1)) L) = (X7_readSum 12 (some m) (ofN (8 - 8)) (hw σ (stR m I (i + 1) lv (-ofN 1)) L)).bind (X7_readClause_c21 (some m)) := by
      simp (disch := first | omega | assumption) only [X7_readClause, R_takes h hR hK, hy, if_true, if_neg, mgI, mgL, mpI, mpZ0, mpZ1, mpL, mcT, rZ0, rZ1, mR1, mA1, mS1, mR2, mA2, mS2, mR3, mA3, mS3, mR4, mA4, mS4, mR5, mA5, mS5, mR6, mA6, mS6, mR7, mA7, mS7, mR8, mA8, mS8, mR10, mA10, mS10, mR14, mA14, mS14, mR15, mA15, mS15, mR18, mA18, mS18, mR19, mA19, mS19, mR20, mA20, mS20, mR29, mA29, mS29, mR32, mA32, mS32, mR33, mA33, mS33, mR34, mA34, mS34, mR35, mA35, mS35, mR37, mA37, mS37, mR38, mA38, mS38, mR39, mA39, mS39, mR40, mA40, mS40, mR41, mA41, mS41, mR43, mA43, mS43, mR46, mA46, mS46, mR47, mA47, mS47, mR48, mA48, mS48, mR49, mA49, mS49, mR50, mA50, mS50, mR51, mA51, mS51, mR52, mA52, mS52, mR53, mA53, mS53, mR60, mA60, mS60, mR61, mA61, mS61, Option.bind_some, ofN_add, ofN_mul, ofN_sub, ofN_lt, ofN_le, ofN_inj, ofN_dec, ofN_lt_neg, neg_lt_ofN, ofN_le_neg, neg_le_ofN, ofN_eq_neg, neg_eq_ofN, ofN_irm, ofN_div, l0, l1, l2, l3, l4, l5, l6, l7, l8, l9, l10, l11, l12, l13, l14, l15, l16, l17, l18, l19, l20, l21, l22, l23, l24, l25, l26, l27, l28, l29, l30, l31, l32, l33, l34, l35, l36, l37, l38, l39, l40, l41, l42, l43, l44, l45, l46, l47, l48, l49, l50, l51, l52, l53, l54, l55, l56, l57, l58, l59, l60, l61, l62, l63, l64, l65, l66, l67, l68, l69, l70, l71, l72, l73, l74, l75, l76, l77, l78, l79, l80, l81, l82, l83, l84, l85, l86, l87, l88, l89, l90, l91, l92, l93, l94, l95, l96, l97, l98, l99, l100, l101, l102, l103, l104, l105, l106, l107, l108, l109, l110, l111, l112, l113, l114, l115, l116, l117, l118, l119, l120, l121, l122, l123, l124, l125, l126, l127, l128, l129, l130, l131, l196, l200, l245, l255, l368, l369, l370, l382, l383, l384, l385, l386, l387, l388, l394, l395, l400, l401, l617, l738, l800, l999, l1000, l1500, l1600, l2400, l3195, l5920, l5995, l11990, l99999, l1000000, l100000000, l1000000000, l2000000000, l2147483647]
    rw [hX]
    refine RdR.bind (fun j hj => (hR.1 j hj).2.2.2) (R_sum h hR hK 8 12 (by omega) (by omega) (i + 1) lv (by omega) hl) (fun i1 lv1 d hp => ?_) (R_ifS h)
    have hrd := pSum_rd (ord := ord) hK 8 _ _ _ hp (by omega)
    dsimp only at hrd
    exact RdR.map (R_if h hR hK hrd.2.1 hrd.2.2.2.1)
  · rw [if_neg hy]
    by_cases hz : cd i = 2
    · have hi2 : i < T := hK.pos (by omega)
      rw [if_pos hz]
      have hX : X7_readClause (some m) (hw σ (stR m I i lv (-ofN 1)) L) = X7_readClause_c21 (some m) (hw σ (stR m I (i + 1) lv (-ofN 1)) L) := by
        simp (disch := first | omega | assumption) only [X7_readClause, R_takes h hR hK, R_must h hR hK, if_neg hy, hz, if_true, if_neg, mgI, mgL, mpI, mpZ0, mpZ1, mpL, mcT, rZ0, rZ1, mR1, mA1, mS1, mR2, mA2, mS2, mR3, mA3, mS3, mR4, mA4, mS4, mR5, mA5, mS5, mR6, mA6, mS6, mR7, mA7, mS7, mR8, mA8, mS8, mR10, mA10, mS10, mR14, mA14, mS14, mR15, mA15, mS15, mR18, mA18, mS18, mR19, mA19, mS19, mR20, mA20, mS20, mR29, mA29, mS29, mR32, mA32, mS32, mR33, mA33, mS33, mR34, mA34, mS34, mR35, mA35, mS35, mR37, mA37, mS37, mR38, mA38, mS38, mR39, mA39, mS39, mR40, mA40, mS40, mR41, mA41, mS41, mR43, mA43, mS43, mR46, mA46, mS46, mR47, mA47, mS47, mR48, mA48, mS48, mR49, mA49, mS49, mR50, mA50, mS50, mR51, mA51, mS51, mR52, mA52, mS52, mR53, mA53, mS53, mR60, mA60, mS60, mR61, mA61, mS61, Option.bind_some, ofN_add, ofN_mul, ofN_sub, ofN_lt, ofN_le, ofN_inj, ofN_dec, ofN_lt_neg, neg_lt_ofN, ofN_le_neg, neg_le_ofN, ofN_eq_neg, neg_eq_ofN, ofN_irm, ofN_div, l0, l1, l2, l3, l4, l5, l6, l7, l8, l9, l10, l11, l12, l13, l14, l15, l16, l17, l18, l19, l20, l21, l22, l23, l24, l25, l26, l27, l28, l29, l30, l31, l32, l33, l34, l35, l36, l37, l38, l39, l40, l41, l42, l43, l44, l45, l46, l47, l48, l49, l50, l51, l52, l53, l54, l55, l56, l57, l58, l59, l60, l61, l62, l63, l64, l65, l66, l67, l68, l69, l70, l71, l72, l73, l74, l75, l76, l77, l78, l79, l80, l81, l82, l83, l84, l85, l86, l87, l88, l89, l90, l91, l92, l93, l94, l95, l96, l97, l98, l99, l100, l101, l102, l103, l104, l105, l106, l107, l108, l109, l110, l111, l112, l113, l114, l115, l116, l117, l118, l119, l120, l121, l122, l123, l124, l125, l126, l127, l128, l129, l130, l131, l196, l200, l245, l255, l368, l369, l370, l382, l383, l384, l385, l386, l387, l388, l394, l395, l400, l401, l617, l738, l800, l999, l1000, l1500, l1600, l2400, l3195, l5920, l5995, l11990, l99999, l1000000, l100000000, l1000000000, l2000000000, l2147483647]
      rw [hX]
      exact RdR.map (R_if h hR hK (by omega) hl)
    · rw [if_neg hz]
      refine Or.inl ⟨i, lv, rfl, hi, ?_⟩
      have hf := (hR.1 i hi).2.2.2
      simp (disch := first | omega | assumption) only [X7_readClause, R_takes h hR hK, R_must h hR hK, if_neg hy, if_neg hz, R_ifS h i lv (fr i) hf, if_true, if_neg, mgI, mgL, mpI, mpZ0, mpZ1, mpL, mcT, rZ0, rZ1, mR1, mA1, mS1, mR2, mA2, mS2, mR3, mA3, mS3, mR4, mA4, mS4, mR5, mA5, mS5, mR6, mA6, mS6, mR7, mA7, mS7, mR8, mA8, mS8, mR10, mA10, mS10, mR14, mA14, mS14, mR15, mA15, mS15, mR18, mA18, mS18, mR19, mA19, mS19, mR20, mA20, mS20, mR29, mA29, mS29, mR32, mA32, mS32, mR33, mA33, mS33, mR34, mA34, mS34, mR35, mA35, mS35, mR37, mA37, mS37, mR38, mA38, mS38, mR39, mA39, mS39, mR40, mA40, mS40, mR41, mA41, mS41, mR43, mA43, mS43, mR46, mA46, mS46, mR47, mA47, mS47, mR48, mA48, mS48, mR49, mA49, mS49, mR50, mA50, mS50, mR51, mA51, mS51, mR52, mA52, mS52, mR53, mA53, mS53, mR60, mA60, mS60, mR61, mA61, mS61, Option.bind_some, ofN_add, ofN_mul, ofN_sub, ofN_lt, ofN_le, ofN_inj, ofN_dec, ofN_lt_neg, neg_lt_ofN, ofN_le_neg, neg_le_ofN, ofN_eq_neg, neg_eq_ofN, ofN_irm, ofN_div, l0, l1, l2, l3, l4, l5, l6, l7, l8, l9, l10, l11, l12, l13, l14, l15, l16, l17, l18, l19, l20, l21, l22, l23, l24, l25, l26, l27, l28, l29, l30, l31, l32, l33, l34, l35, l36, l37, l38, l39, l40, l41, l42, l43, l44, l45, l46, l47, l48, l49, l50, l51, l52, l53, l54, l55, l56, l57, l58, l59, l60, l61, l62, l63, l64, l65, l66, l67, l68, l69, l70, l71, l72, l73, l74, l75, l76, l77, l78, l79, l80, l81, l82, l83, l84, l85, l86, l87, l88, l89, l90, l91, l92, l93, l94, l95, l96, l97, l98, l99, l100, l101, l102, l103, l104, l105, l106, l107, l108, l109, l110, l111, l112, l113, l114, l115, l116, l117, l118, l119, l120, l121, l122, l123, l124, l125, l126, l127, l128, l129, l130, l131, l196, l200, l245, l255, l368, l369, l370, l382, l383, l384, l385, l386, l387, l388, l394, l395, l400, l401, l617, l738, l800, l999, l1000, l1500, l1600, l2400, l3195, l5920, l5995, l11990, l99999, l1000000, l100000000, l1000000000, l2000000000, l2147483647]
/-- one text behind an other -/
theorem R_allF (h : MSh m σ) (hR : RdC m I ord cd vl fr T) (hK : Tk cd vl T) {α : Type} {one : Nat → Nat → PR α} (hone : ∀ i lv q, one i lv = .inr q → i ≤ T → lv ≤ 50 → q.1 ≤ T ∧ q.2.1 ≤ 50) (hrd : ∀ i lv, i ≤ T → lv ≤ 50 → RdR m σ I L fr T (one i lv) (X7_readOne (some m) (hw σ (stR m I i lv (-ofN 1)) L))) {k73 : Hp → Option (Int32 × Hp)} : ∀ (r i lv fuel : Nat), r ≤ 11 → i ≤ T → lv ≤ 50 → r + 2 < fuel →
    ∃ j lv' b, ((X7_readOne (some m) (hw σ (stR m I i lv (-ofN 1)) L)).bind (X7_reads_c34 (some m) k73 fuel (ofN (12 - r)))) = k73 (hw σ (stR m I j lv' b) L) ∧ ((∃ j', pAll cd T one r i lv = .inl j' ∧ j' ≤ T ∧ (b = ofN (fr j') ∨ (b = -ofN 1 ∧ j = j' ∧ j' < T))) ∨ ∃ l, pAll cd T one r i lv = .inr l ∧ b = -ofN 1 ∧ T ≤ j ∧ j ≤ T) := by
  have h1 := hK.1
  have sk : ∀ fuel i lv j (c : Int32), 0 < fuel → j < 1000 → X7_reads_c34 (some m) k73 fuel c (hw σ (stR m I i lv (ofN j)) L) = k73 (hw σ (stR m I i lv (ofN j)) L) := by
    intro fuel i lv j c hf hj
    obtain ⟨f, rfl⟩ : ∃ f, fuel = f + 1 := ⟨fuel - 1, by omega⟩
    simp (disch := first | omega | assumption) only [X7_reads_c34, R_signOf, R_takesS h hj, if_true, mgI, mgL, mpI, mpZ0, mpZ1, mpL, mcT, rZ0, rZ1, mR1, mA1, mS1, mR2, mA2, mS2, mR3, mA3, mS3, mR4, mA4, mS4, mR5, mA5, mS5, mR6, mA6, mS6, mR7, mA7, mS7, mR8, mA8, mS8, mR10, mA10, mS10, mR14, mA14, mS14, mR15, mA15, mS15, mR18, mA18, mS18, mR19, mA19, mS19, mR20, mA20, mS20, mR29, mA29, mS29, mR32, mA32, mS32, mR33, mA33, mS33, mR34, mA34, mS34, mR35, mA35, mS35, mR37, mA37, mS37, mR38, mA38, mS38, mR39, mA39, mS39, mR40, mA40, mS40, mR41, mA41, mS41, mR43, mA43, mS43, mR46, mA46, mS46, mR47, mA47, mS47, mR48, mA48, mS48, mR49, mA49, mS49, mR50, mA50, mS50, mR51, mA51, mS51, mR52, mA52, mS52, mR53, mA53, mS53, mR60, mA60, mS60, mR61, mA61, mS61, Option.bind_some, ofN_add, ofN_mul, ofN_sub, ofN_lt, ofN_le, ofN_inj, ofN_dec, ofN_lt_neg, neg_lt_ofN, ofN_le_neg, neg_le_ofN, ofN_eq_neg, neg_eq_ofN, ofN_irm, ofN_div, l0, l1, l2, l3, l4, l5, l6, l7, l8, l9, l10, l11, l12, l13, l14, l15, l16, l17, l18, l19, l20, l21, l22, l23, l24, l25, l26, l27, l28, l29, l30, l31, l32, l33, l34, l35, l36, l37, l38, l39, l40, l41, l42, l43, l44, l45, l46, l47, l48, l49, l50, l51, l52, l53, l54, l55, l56, l57, l58, l59, l60, l61, l62, l63, l64, l65, l66, l67, l68, l69, l70, l71, l72, l73, l74, l75, l76, l77, l78, l79, l80, l81, l82, l83, l84, l85, l86, l87, l88, l89, l90, l91, l92, l93, l94, l95, l96, l97, l98, l99, l100, l101, l102, l103, l104, l105, l106, l107, l108, l109, l110, l111, l112, l113, l114, l115, l116, l117, l118, l119, l120, l121, l122, l123, l124, l125, l126, l127, l128, l129, l130, l131, l196, l200, l245, l255, l368, l369, l370, l382, l383, l384, l385, l386, l387, l388, l394, l395, l400, l401, l617, l738, l800, l999, l1000, l1500, l1600, l2400, l3195, l5920, l5995, l11990, l99999, l1000000, l100000000, l1000000000, l2000000000, l2147483647]
  intro r
  induction r with
  | zero =>
    intro i lv fuel hr hi hl hf
    obtain ⟨f, rfl⟩ : ∃ f, fuel = f + 1 + 1 := ⟨fuel - 2, by omega⟩
    unfold pAll
    rcases hrd i lv hi hl with ⟨j, lv', e1, e2, e3⟩ | ⟨i', lv', d, e1, e2⟩
    · rw [e1, e3, Option.bind_some, sk (f + 1 + 1) j lv' (fr j) _ (by omega) (hR.1 j e2).2.2.2]
      exact ⟨j, lv', _, rfl, Or.inl ⟨j, rfl, e2, Or.inl rfl⟩⟩
    · obtain ⟨q1, q2⟩ := hone _ _ _ e1 hi hl
      dsimp only at q1 q2
      rw [e1, e2, Option.bind_some]
      dsimp only
      by_cases hy : cd i' = 159
      · have hi2 : i' < T := hK.pos (by omega)
        have hf2 := (hR.1 (i' + 1) (by omega)).2.2.2
        rw [if_pos hy]
        refine ⟨i' + 1, lv', ofN (fr (i' + 1)), ?_, Or.inl ⟨i' + 1, rfl, by omega, Or.inl rfl⟩⟩
        rw [X7_reads_c34]
        simp (disch := first | omega | assumption) only [X7_reads_c56, R_signOf, R_takes h hR hK, R_faults h hR, R_bad h, hy, sk, if_true, if_neg, mgI, mgL, mpI, mpZ0, mpZ1, mpL, mcT, rZ0, rZ1, mR1, mA1, mS1, mR2, mA2, mS2, mR3, mA3, mS3, mR4, mA4, mS4, mR5, mA5, mS5, mR6, mA6, mS6, mR7, mA7, mS7, mR8, mA8, mS8, mR10, mA10, mS10, mR14, mA14, mS14, mR15, mA15, mS15, mR18, mA18, mS18, mR19, mA19, mS19, mR20, mA20, mS20, mR29, mA29, mS29, mR32, mA32, mS32, mR33, mA33, mS33, mR34, mA34, mS34, mR35, mA35, mS35, mR37, mA37, mS37, mR38, mA38, mS38, mR39, mA39, mS39, mR40, mA40, mS40, mR41, mA41, mS41, mR43, mA43, mS43, mR46, mA46, mS46, mR47, mA47, mS47, mR48, mA48, mS48, mR49, mA49, mS49, mR50, mA50, mS50, mR51, mA51, mS51, mR52, mA52, mS52, mR53, mA53, mS53, mR60, mA60, mS60, mR61, mA61, mS61, Option.bind_some, ofN_add, ofN_mul, ofN_sub, ofN_lt, ofN_le, ofN_inj, ofN_dec, ofN_lt_neg, neg_lt_ofN, ofN_le_neg, neg_le_ofN, ofN_eq_neg, neg_eq_ofN, ofN_irm, ofN_div, l0, l1, l2, l3, l4, l5, l6, l7, l8, l9, l10, l11, l12, l13, l14, l15, l16, l17, l18, l19, l20, l21, l22, l23, l24, l25, l26, l27, l28, l29, l30, l31, l32, l33, l34, l35, l36, l37, l38, l39, l40, l41, l42, l43, l44, l45, l46, l47, l48, l49, l50, l51, l52, l53, l54, l55, l56, l57, l58, l59, l60, l61, l62, l63, l64, l65, l66, l67, l68, l69, l70, l71, l72, l73, l74, l75, l76, l77, l78, l79, l80, l81, l82, l83, l84, l85, l86, l87, l88, l89, l90, l91, l92, l93, l94, l95, l96, l97, l98, l99, l100, l101, l102, l103, l104, l105, l106, l107, l108, l109, l110, l111, l112, l113, l114, l115, l116, l117, l118, l119, l120, l121, l122, l123, l124, l125, l126, l127, l128, l129, l130, l131, l196, l200, l245, l255, l368, l369, l370, l382, l383, l384, l385, l386, l387, l388, l394, l395, l400, l401, l617, l738, l800, l999, l1000, l1500, l1600, l2400, l3195, l5920, l5995, l11990, l99999, l1000000, l100000000, l1000000000, l2000000000, l2147483647]
      · rw [if_neg hy]
        have hX : X7_reads_c34 (some m) k73 (f + 1 + 1) (ofN (12 - 0)) (hw σ (stR m I i' lv' (-ofN 1)) L) = k73 (hw σ (stR m I i' lv' (-ofN 1)) L) := by
          rw [X7_reads_c34]
          simp (disch := first | omega | assumption) only [R_signOf, R_takes h hR hK, if_neg hy, if_true, mgI, mgL, mpI, mpZ0, mpZ1, mpL, mcT, rZ0, rZ1, mR1, mA1, mS1, mR2, mA2, mS2, mR3, mA3, mS3, mR4, mA4, mS4, mR5, mA5, mS5, mR6, mA6, mS6, mR7, mA7, mS7, mR8, mA8, mS8, mR10, mA10, mS10, mR14, mA14, mS14, mR15, mA15, mS15, mR18, mA18, mS18, mR19, mA19, mS19, mR20, mA20, mS20, mR29, mA29, mS29, mR32, mA32, mS32, mR33, mA33, mS33, mR34, mA34, mS34, mR35, mA35, mS35, mR37, mA37, mS37, mR38, mA38, mS38, mR39, mA39, mS39, mR40, mA40, mS40, mR41, mA41, mS41, mR43, mA43, mS43, mR46, mA46, mS46, mR47, mA47, mS47, mR48, mA48, mS48, mR49, mA49, mS49, mR50, mA50, mS50, mR51, mA51, mS51, mR52, mA52, mS52, mR53, mA53, mS53, mR60, mA60, mS60, mR61, mA61, mS61, Option.bind_some, ofN_add, ofN_mul, ofN_sub, ofN_lt, ofN_le, ofN_inj, ofN_dec, ofN_lt_neg, neg_lt_ofN, ofN_le_neg, neg_le_ofN, ofN_eq_neg, neg_eq_ofN, ofN_irm, ofN_div, l0, l1, l2, l3, l4, l5, l6, l7, l8, l9, l10, l11, l12, l13, l14, l15, l16, l17, l18, l19, l20, l21, l22, l23, l24, l25, l26, l27, l28, l29, l30, l31, l32, l33, l34, l35, l36, l37, l38, l39, l40, l41, l42, l43, l44, l45, l46, l47, l48, l49, l50, l51, l52, l53, l54, l55, l56, l57, l58, l59, l60, l61, l62, l63, l64, l65, l66, l67, l68, l69, l70, l71, l72, l73, l74, l75, l76, l77, l78, l79, l80, l81, l82, l83, l84, l85, l86, l87, l88, l89, l90, l91, l92, l93, l94, l95, l96, l97, l98, l99, l100, l101, l102, l103, l104, l105, l106, l107, l108, l109, l110, l111, l112, l113, l114, l115, l116, l117, l118, l119, l120, l121, l122, l123, l124, l125, l126, l127, l128, l129, l130, l131, l196, l200, l245, l255, l368, l369, l370, l382, l383, l384, l385, l386, l387, l388, l394, l395, l400, l401, l617, l738, l800, l999, l1000, l1500, l1600, l2400, l3195, l5920, l5995, l11990, l99999, l1000000, l100000000, l1000000000, l2000000000, l2147483647]
        refine ⟨i', lv', _, hX, ?_⟩
        by_cases hz : i' < T
        · exact Or.inl ⟨i', by rw [if_pos hz], by omega, Or.inr ⟨rfl, rfl, hz⟩⟩
        · exact Or.inr ⟨[d], by rw [if_neg hz], rfl, by omega, q1⟩
  | succ r ih =>
    intro i lv fuel hr hi hl hf
    obtain ⟨f, rfl⟩ : ∃ f, fuel = f + 1 := ⟨fuel - 1, by omega⟩
    unfold pAll
    rcases hrd i lv hi hl with ⟨j, lv', e1, e2, e3⟩ | ⟨i', lv', d, e1, e2⟩
    · rw [e1, e3, Option.bind_some, sk (f + 1) j lv' (fr j) _ (by omega) (hR.1 j e2).2.2.2]
      exact ⟨j, lv', _, rfl, Or.inl ⟨j, rfl, e2, Or.inl rfl⟩⟩
    · obtain ⟨q1, q2⟩ := hone _ _ _ e1 hi hl
      dsimp only at q1 q2
      rw [e1, e2, Option.bind_some]
      dsimp only
      by_cases hy : cd i' = 159
      · have hi2 : i' < T := hK.pos (by omega)
        rw [if_pos hy]
        have hX : X7_reads_c34 (some m) k73 (f + 1) (ofN (12 - (r + 1))) (hw σ (stR m I i' lv' (-ofN 1)) L) = (X7_readOne (some m) (hw σ (stR m I (i' + 1) lv' (-ofN 1)) L)).bind (X7_reads_c34 (some m) k73 f (ofN (12 - r))) := by
          rw [X7_reads_c34, show 12 - r = 12 - (r + 1) + 1 by omega]
          simp (disch := first | omega | assumption) only [X7_reads_c56, R_signOf, R_takes h hR hK, R_fine h, hy, if_true, if_neg, mgI, mgL, mpI, mpZ0, mpZ1, mpL, mcT, rZ0, rZ1, mR1, mA1, mS1, mR2, mA2, mS2, mR3, mA3, mS3, mR4, mA4, mS4, mR5, mA5, mS5, mR6, mA6, mS6, mR7, mA7, mS7, mR8, mA8, mS8, mR10, mA10, mS10, mR14, mA14, mS14, mR15, mA15, mS15, mR18, mA18, mS18, mR19, mA19, mS19, mR20, mA20, mS20, mR29, mA29, mS29, mR32, mA32, mS32, mR33, mA33, mS33, mR34, mA34, mS34, mR35, mA35, mS35, mR37, mA37, mS37, mR38, mA38, mS38, mR39, mA39, mS39, mR40, mA40, mS40, mR41, mA41, mS41, mR43, mA43, mS43, mR46, mA46, mS46, mR47, mA47, mS47, mR48, mA48, mS48, mR49, mA49, mS49, mR50, mA50, mS50, mR51, mA51, mS51, mR52, mA52, mS52, mR53, mA53, mS53, mR60, mA60, mS60, mR61, mA61, mS61, Option.bind_some, ofN_add, ofN_mul, ofN_sub, ofN_lt, ofN_le, ofN_inj, ofN_dec, ofN_lt_neg, neg_lt_ofN, ofN_le_neg, neg_le_ofN, ofN_eq_neg, neg_eq_ofN, ofN_irm, ofN_div, l0, l1, l2, l3, l4, l5, l6, l7, l8, l9, l10, l11, l12, l13, l14, l15, l16, l17, l18, l19, l20, l21, l22, l23, l24, l25, l26, l27, l28, l29, l30, l31, l32, l33, l34, l35, l36, l37, l38, l39, l40, l41, l42, l43, l44, l45, l46, l47, l48, l49, l50, l51, l52, l53, l54, l55, l56, l57, l58, l59, l60, l61, l62, l63, l64, l65, l66, l67, l68, l69, l70, l71, l72, l73, l74, l75, l76, l77, l78, l79, l80, l81, l82, l83, l84, l85, l86, l87, l88, l89, l90, l91, l92, l93, l94, l95, l96, l97, l98, l99, l100, l101, l102, l103, l104, l105, l106, l107, l108, l109, l110, l111, l112, l113, l114, l115, l116, l117, l118, l119, l120, l121, l122, l123, l124, l125, l126, l127, l128, l129, l130, l131, l196, l200, l245, l255, l368, l369, l370, l382, l383, l384, l385, l386, l387, l388, l394, l395, l400, l401, l617, l738, l800, l999, l1000, l1500, l1600, l2400, l3195, l5920, l5995, l11990, l99999, l1000000, l100000000, l1000000000, l2000000000, l2147483647]
        rw [hX]
        obtain ⟨j, lv2, b2, g1, g2⟩ := ih (i' + 1) lv' f (by omega) (by omega) q2 (by omega)
        refine ⟨j, lv2, b2, g1, ?_⟩
        rcases g2 with ⟨j', w1, w2⟩ | ⟨l, w1, w2⟩
        · rw [w1]
          exact Or.inl ⟨j', rfl, w2⟩
        · rw [w1]
          exact Or.inr ⟨_, rfl, w2⟩
      · rw [if_neg hy]
        have hX : X7_reads_c34 (some m) k73 (f + 1) (ofN (12 - (r + 1))) (hw σ (stR m I i' lv' (-ofN 1)) L) = k73 (hw σ (stR m I i' lv' (-ofN 1)) L) := by
          rw [X7_reads_c34]
          simp (disch := first | omega | assumption) only [R_signOf, R_takes h hR hK, if_neg hy, if_true, mgI, mgL, mpI, mpZ0, mpZ1, mpL, mcT, rZ0, rZ1, mR1, mA1, mS1, mR2, mA2, mS2, mR3, mA3, mS3, mR4, mA4, mS4, mR5, mA5, mS5, mR6, mA6, mS6, mR7, mA7, mS7, mR8, mA8, mS8, mR10, mA10, mS10, mR14, mA14, mS14, mR15, mA15, mS15, mR18, mA18, mS18, mR19, mA19, mS19, mR20, mA20, mS20, mR29, mA29, mS29, mR32, mA32, mS32, mR33, mA33, mS33, mR34, mA34, mS34, mR35, mA35, mS35, mR37, mA37, mS37, mR38, mA38, mS38, mR39, mA39, mS39, mR40, mA40, mS40, mR41, mA41, mS41, mR43, mA43, mS43, mR46, mA46, mS46, mR47, mA47, mS47, mR48, mA48, mS48, mR49, mA49, mS49, mR50, mA50, mS50, mR51, mA51, mS51, mR52, mA52, mS52, mR53, mA53, mS53, mR60, mA60, mS60, mR61, mA61, mS61, Option.bind_some, ofN_add, ofN_mul, ofN_sub, ofN_lt, ofN_le, ofN_inj, ofN_dec, ofN_lt_neg, neg_lt_ofN, ofN_le_neg, neg_le_ofN, ofN_eq_neg, neg_eq_ofN, ofN_irm, ofN_div, l0, l1, l2, l3, l4, l5, l6, l7, l8, l9, l10, l11, l12, l13, l14, l15, l16, l17, l18, l19, l20, l21, l22, l23, l24, l25, l26, l27, l28, l29, l30, l31, l32, l33, l34, l35, l36, l37, l38, l39, l40, l41, l42, l43, l44, l45, l46, l47, l48, l49, l50, l51, l52, l53, l54, l55, l56, l57, l58, l59, l60, l61, l62, l63, l64, l65, l66, l67, l68, l69, l70, l71, l72, l73, l74, l75, l76, l77, l78, l79, l80, l81, l82, l83, l84, l85, l86, l87, l88, l89, l90, l91, l92, l93, l94, l95, l96, l97, l98, l99, l100, l101, l102, l103, l104, l105, l106, l107, l108, l109, l110, l111, l112, l113, l114, l115, l116, l117, l118, l119, l120, l121, l122, l123, l124, l125, l126, l127, l128, l129, l130, l131, l196, l200, l245, l255, l368, l369, l370, l382, l383, l384, l385, l386, l387, l388, l394, l395, l400, l401, l617, l738, l800, l999, l1000, l1500, l1600, l2400, l3195, l5920, l5995, l11990, l99999, l1000000, l100000000, l1000000000, l2000000000, l2147483647]
        refine ⟨i', lv', _, hX, ?_⟩
        by_cases hz : i' < T
        · exact Or.inl ⟨i', by rw [if_pos hz], by omega, Or.inr ⟨rfl, rfl, hz⟩⟩
        · exact Or.inr ⟨[d], by rw [if_neg hz], rfl, by omega, q1⟩
/-! orders -/
theorem ct_behind {α : Type} {o : Option Nat} {c : Int32} {τ : Hp} {k : Hp → Option α} : ((cT τ o 7).bind fun _ => (X7_readBehind o c τ).bind k) = (X7_readBehind o c τ).bind k := by
  unfold X7_readBehind
  cases cT τ o 7 <;> rfl
theorem behind_eq {o : Option Nat} {c : Int32} {τ : Hp} : X7_readBehind o c τ = (X7_must o c τ).bind (X7_readSum 12 o (ofN 0)) := by
  unfold X7_readBehind
  rw [ct_mustb]
  congr 1
  funext τ'
  rw [ct_sum, bind_id]
  rfl
theorem R_behind (h : MSh m σ) (hR : RdC m I true cd vl fr T) (hK : Tk cd vl T) {c : Nat} (hc0 : 0 < c) (hc : c < 1000) (hi : i ≤ T) (hl : lv ≤ 50) : RdR m σ I L fr T (pBehind cd vl c i lv) (X7_readBehind (some m) (ofN c) (hw σ (stR m I i lv (-ofN 1)) L)) := by
  rw [behind_eq, R_must h hR hK hi hc, Option.bind_some]
  unfold pBehind
  by_cases hy : cd i = c
  · have hi2 : i < T := hK.pos (by omega)
    rw [if_pos hy, if_pos hy]
    exact R_sum h hR hK 8 12 (by omega) (by omega) (i + 1) lv (by omega) hl
  · rw [if_neg hy, if_neg hy]
    exact Or.inl ⟨i, lv, rfl, hi, R_sumS h 12 (by omega) i lv (fr i) (hR.1 i hi).2.2.2⟩
theorem R_behindS (h : MSh m σ) {c : Int32} : Skp m σ I L (X7_readBehind (some m) c) := by
  intro i lv j hj
  rw [behind_eq, R_mustS h i lv j hj, Option.bind_some]
  exact R_sumS h 12 (by omega) i lv j hj
theorem pBehind_rd (hK : Tk cd vl T) {c : Nat} (hc0 : 0 < c) {q : Nat × Nat × DS} (hq : pBehind cd vl c i lv = .inr q) (hi : i ≤ T) : q.1 ≤ T ∧ q.2.1 ≤ 50 := by
  unfold pBehind at hq
  split at hq
  · next hc =>
    have hi2 : i < T := hK.pos (by omega)
    have := pSum_rd hK 8 _ _ _ hq (by omega)
    exact ⟨this.2.1, this.2.2.2.1⟩
  · cases hq
theorem c83_eq : X7_readOrder_c83 = X7_readClause_c21 := rfl
theorem ct_num {o : Option Nat} {a c : Int32} {τ : Hp} {k : Hp → Option Hp} : ((cT τ o 7).bind fun _ => (X7_mustNumber o a c τ).bind k) = (X7_mustNumber o a c τ).bind k := by
  unfold X7_mustNumber
  cases cT τ o 7 <;> rfl
theorem R_c67 (h : MSh m σ) (hR : RdC m I true cd vl fr T) (hK : Tk cd vl T) (hi : i ≤ T) (hl : lv ≤ 50) : RdR m σ I L fr T (pBd (pTimes cd vl i lv) fun i2 lv2 n => pBd (pIf true cd vl i2 lv2) fun i3 lv3 t => .inr (i3, lv3, (n, t))) (X7_readOrder_c67 (some m) (hw σ (stR m I i lv (-ofN 1)) L)) := by
  have h1 := hK.1
  unfold pTimes
  by_cases hy : cd i = 23
  · have hi2 : i < T := hK.pos (by omega)
    rw [if_pos hy]
    have hX : X7_readOrder_c67 (some m) (hw σ (stR m I i lv (-ofN 1)) L) = (X7_mustNumber (some m) (ofN 1) (ofN 20) (hw σ (stR m I (i + 1) lv (-ofN 1)) L)).bind (X7_readClause_c21 (some m)) := by
      simp (disch := first | omega | assumption) only [X7_readOrder_c67, R_takes h hR hK, hy, c83_eq, if_true, if_neg, mgI, mgL, mpI, mpZ0, mpZ1, mpL, mcT, rZ0, rZ1, mR1, mA1, mS1, mR2, mA2, mS2, mR3, mA3, mS3, mR4, mA4, mS4, mR5, mA5, mS5, mR6, mA6, mS6, mR7, mA7, mS7, mR8, mA8, mS8, mR10, mA10, mS10, mR14, mA14, mS14, mR15, mA15, mS15, mR18, mA18, mS18, mR19, mA19, mS19, mR20, mA20, mS20, mR29, mA29, mS29, mR32, mA32, mS32, mR33, mA33, mS33, mR34, mA34, mS34, mR35, mA35, mS35, mR37, mA37, mS37, mR38, mA38, mS38, mR39, mA39, mS39, mR40, mA40, mS40, mR41, mA41, mS41, mR43, mA43, mS43, mR46, mA46, mS46, mR47, mA47, mS47, mR48, mA48, mS48, mR49, mA49, mS49, mR50, mA50, mS50, mR51, mA51, mS51, mR52, mA52, mS52, mR53, mA53, mS53, mR60, mA60, mS60, mR61, mA61, mS61, Option.bind_some, ofN_add, ofN_mul, ofN_sub, ofN_lt, ofN_le, ofN_inj, ofN_dec, ofN_lt_neg, neg_lt_ofN, ofN_le_neg, neg_le_ofN, ofN_eq_neg, neg_eq_ofN, ofN_irm, ofN_div, l0, l1, l2, l3, l4, l5, l6, l7, l8, l9, l10, l11, l12, l13, l14, l15, l16, l17, l18, l19, l20, l21, l22, l23, l24, l25, l26, l27, l28, l29, l30, l31, l32, l33, l34, l35, l36, l37, l38, l39, l40, l41, l42, l43, l44, l45, l46, l47, l48, l49, l50, l51, l52, l53, l54, l55, l56, l57, l58, l59, l60, l61, l62, l63, l64, l65, l66, l67, l68, l69, l70, l71, l72, l73, l74, l75, l76, l77, l78, l79, l80, l81, l82, l83, l84, l85, l86, l87, l88, l89, l90, l91, l92, l93, l94, l95, l96, l97, l98, l99, l100, l101, l102, l103, l104, l105, l106, l107, l108, l109, l110, l111, l112, l113, l114, l115, l116, l117, l118, l119, l120, l121, l122, l123, l124, l125, l126, l127, l128, l129, l130, l131, l196, l200, l245, l255, l368, l369, l370, l382, l383, l384, l385, l386, l387, l388, l394, l395, l400, l401, l617, l738, l800, l999, l1000, l1500, l1600, l2400, l3195, l5920, l5995, l11990, l99999, l1000000, l100000000, l1000000000, l2000000000, l2147483647]
    rw [hX]
    refine RdR.bind (fun j hj => (hR.1 j hj).2.2.2) (R_number h hR hK (by omega) (by omega) (by omega)) (fun i1 lv1 d hp => ?_) (R_ifS h)
    unfold pNum at hp
    split at hp
    · next hc =>
      have hi3 : i + 1 < T := hK.pos (by omega)
      cases hp
      exact RdR.map (R_if h hR hK (by omega) hl)
    · cases hp
  · rw [if_neg hy]
    have hX : X7_readOrder_c67 (some m) (hw σ (stR m I i lv (-ofN 1)) L) = X7_readClause_c21 (some m) (hw σ (stR m I i lv (-ofN 1)) L) := by
      simp (disch := first | omega | assumption) only [X7_readOrder_c67, R_takes h hR hK, if_neg hy, c83_eq, if_true, mgI, mgL, mpI, mpZ0, mpZ1, mpL, mcT, rZ0, rZ1, mR1, mA1, mS1, mR2, mA2, mS2, mR3, mA3, mS3, mR4, mA4, mS4, mR5, mA5, mS5, mR6, mA6, mS6, mR7, mA7, mS7, mR8, mA8, mS8, mR10, mA10, mS10, mR14, mA14, mS14, mR15, mA15, mS15, mR18, mA18, mS18, mR19, mA19, mS19, mR20, mA20, mS20, mR29, mA29, mS29, mR32, mA32, mS32, mR33, mA33, mS33, mR34, mA34, mS34, mR35, mA35, mS35, mR37, mA37, mS37, mR38, mA38, mS38, mR39, mA39, mS39, mR40, mA40, mS40, mR41, mA41, mS41, mR43, mA43, mS43, mR46, mA46, mS46, mR47, mA47, mS47, mR48, mA48, mS48, mR49, mA49, mS49, mR50, mA50, mS50, mR51, mA51, mS51, mR52, mA52, mS52, mR53, mA53, mS53, mR60, mA60, mS60, mR61, mA61, mS61, Option.bind_some, ofN_add, ofN_mul, ofN_sub, ofN_lt, ofN_le, ofN_inj, ofN_dec, ofN_lt_neg, neg_lt_ofN, ofN_le_neg, neg_le_ofN, ofN_eq_neg, neg_eq_ofN, ofN_irm, ofN_div, l0, l1, l2, l3, l4, l5, l6, l7, l8, l9, l10, l11, l12, l13, l14, l15, l16, l17, l18, l19, l20, l21, l22, l23, l24, l25, l26, l27, l28, l29, l30, l31, l32, l33, l34, l35, l36, l37, l38, l39, l40, l41, l42, l43, l44, l45, l46, l47, l48, l49, l50, l51, l52, l53, l54, l55, l56, l57, l58, l59, l60, l61, l62, l63, l64, l65, l66, l67, l68, l69, l70, l71, l72, l73, l74, l75, l76, l77, l78, l79, l80, l81, l82, l83, l84, l85, l86, l87, l88, l89, l90, l91, l92, l93, l94, l95, l96, l97, l98, l99, l100, l101, l102, l103, l104, l105, l106, l107, l108, l109, l110, l111, l112, l113, l114, l115, l116, l117, l118, l119, l120, l121, l122, l123, l124, l125, l126, l127, l128, l129, l130, l131, l196, l200, l245, l255, l368, l369, l370, l382, l383, l384, l385, l386, l387, l388, l394, l395, l400, l401, l617, l738, l800, l999, l1000, l1500, l1600, l2400, l3195, l5920, l5995, l11990, l99999, l1000000, l100000000, l1000000000, l2000000000, l2147483647]
    rw [hX]
    exact RdR.map (R_if h hR hK hi hl)
theorem R_c67S (h : MSh m σ) : Skp m σ I L (X7_readOrder_c67 (some m)) := by
  intro i lv j hj
  simp (disch := first | omega | assumption) only [X7_readOrder_c67, R_takesS h hj, c83_eq, R_ifS h i lv j hj, if_true, mgI, mgL, mpI, mpZ0, mpZ1, mpL, mcT, rZ0, rZ1, mR1, mA1, mS1, mR2, mA2, mS2, mR3, mA3, mS3, mR4, mA4, mS4, mR5, mA5, mS5, mR6, mA6, mS6, mR7, mA7, mS7, mR8, mA8, mS8, mR10, mA10, mS10, mR14, mA14, mS14, mR15, mA15, mS15, mR18, mA18, mS18, mR19, mA19, mS19, mR20, mA20, mS20, mR29, mA29, mS29, mR32, mA32, mS32, mR33, mA33, mS33, mR34, mA34, mS34, mR35, mA35, mS35, mR37, mA37, mS37, mR38, mA38, mS38, mR39, mA39, mS39, mR40, mA40, mS40, mR41, mA41, mS41, mR43, mA43, mS43, mR46, mA46, mS46, mR47, mA47, mS47, mR48, mA48, mS48, mR49, mA49, mS49, mR50, mA50, mS50, mR51, mA51, mS51, mR52, mA52, mS52, mR53, mA53, mS53, mR60, mA60, mS60, mR61, mA61, mS61, Option.bind_some, ofN_add, ofN_mul, ofN_sub, ofN_lt, ofN_le, ofN_inj, ofN_dec, ofN_lt_neg, neg_lt_ofN, ofN_le_neg, neg_le_ofN, ofN_eq_neg, neg_eq_ofN, ofN_irm, ofN_div, l0, l1, l2, l3, l4, l5, l6, l7, l8, l9, l10, l11, l12, l13, l14, l15, l16, l17, l18, l19, l20, l21, l22, l23, l24, l25, l26, l27, l28, l29, l30, l31, l32, l33, l34, l35, l36, l37, l38, l39, l40, l41, l42, l43, l44, l45, l46, l47, l48, l49, l50, l51, l52, l53, l54, l55, l56, l57, l58, l59, l60, l61, l62, l63, l64, l65, l66, l67, l68, l69, l70, l71, l72, l73, l74, l75, l76, l77, l78, l79, l80, l81, l82, l83, l84, l85, l86, l87, l88, l89, l90, l91, l92, l93, l94, l95, l96, l97, l98, l99, l100, l101, l102, l103, l104, l105, l106, l107, l108, l109, l110, l111, l112, l113, l114, l115, l116, l117, l118, l119, l120, l121, l122, l123, l124, l125, l126, l127, l128, l129, l130, l131, l196, l200, l245, l255, l368, l369, l370, l382, l383, l384, l385, l386, l387, l388, l394, l395, l400, l401, l617, l738, l800, l999, l1000, l1500, l1600, l2400, l3195, l5920, l5995, l11990, l99999, l1000000, l100000000, l1000000000, l2000000000, l2147483647]
theorem pBd_assoc {α β γ : Type} {p : PR α} {f : Nat → Nat → α → PR β} {g : Nat → Nat → β → PR γ} : pBd (pBd p f) g = pBd p fun i lv d => pBd (f i lv d) g := by
  cases p <;> rfl
theorem pBd_inl {α β : Type} {j : Nat} {g : Nat → Nat → α → PR β} : pBd (.inl j) g = .inl j := rfl
theorem pBd_one {α β : Type} {i lv : Nat} {a : α} {g : Nat → Nat → α → PR β} : pBd (.inr (i, lv, a)) g = g i lv a := rfl
theorem R_tail (h : MSh m σ) (hR : RdC m I true cd vl fr T) (hK : Tk cd vl T) (hi : i ≤ T) (hl : lv ≤ 50) {a : Nat × List DS} : RdR m σ I L fr T (pBd (pTimes cd vl i lv) fun i2 lv2 n => pBd (pIf true cd vl i2 lv2) fun i3 lv3 t => .inr (i3, lv3, ((a, n, t) : OD))) (X7_readOrder_c67 (some m) (hw σ (stR m I i lv (-ofN 1)) L)) := by
  have := RdR.map (f := fun d : Nat × Option DT => ((a, d) : OD)) (R_c67 (L := L) h hR hK hi hl)
  simp only [pBd_assoc, pBd_one] at this
  exact this
theorem R_two (h : MSh m σ) (hR : RdC m I true cd vl fr T) (hK : Tk cd vl T) (hi : i ≤ T) (hl : lv ≤ 50) {w : Nat} : RdR m σ I L fr T (pBd (pSum true cd vl 8 i lv) fun i1 lv1 d1 => pBd (pBehind cd vl 18 i1 lv1) fun i2 lv2 d2 => pBd (pTimes cd vl i2 lv2) fun i3 lv3 n => pBd (pIf true cd vl i3 lv3) fun i4 lv4 t => .inr (i4, lv4, (((w, [d1, d2]), n, t) : OD))) (X7_readOrder_c18 (some m) (hw σ (stR m I i lv (-ofN 1)) L)) := by
  have h1 := hK.1
  have hX : X7_readOrder_c18 (some m) (hw σ (stR m I i lv (-ofN 1)) L) = (X7_readSum 12 (some m) (ofN (8 - 8)) (hw σ (stR m I i lv (-ofN 1)) L)).bind fun τ => (X7_readBehind (some m) (ofN 18) τ).bind (X7_readOrder_c67 (some m)) := by
    unfold X7_readOrder_c18
    simp only [ct_sum, ct_behind]
    rfl
  rw [hX]
  have hf : ∀ j, j ≤ T → fr j < 1000 := fun j hj => (hR.1 j hj).2.2.2
  refine RdR.bind hf (R_sum h hR hK 8 12 (by omega) (by omega) i lv hi hl) (fun i1 lv1 d1 hp => ?_) (fun i lv j hj => ?_)
  · have r1 := pSum_rd hK 8 _ _ _ hp hi
    dsimp only at r1
    refine RdR.bind hf (R_behind h hR hK (by omega) (by omega) r1.2.1 r1.2.2.2.1) (fun i2 lv2 d2 hp2 => ?_) (R_c67S h)
    have r2 := pBehind_rd hK (by omega) hp2 r1.2.1
    exact R_tail h hR hK r2.1 r2.2
  · rw [R_behindS h i lv j hj, Option.bind_some]
    exact R_c67S h i lv j hj
theorem R_order (h : MSh m σ) (hR : RdC m I true cd vl fr T) (hK : Tk cd vl T) (hi : i ≤ T) (hl : lv ≤ 50) : RdR m σ I L fr T (pOrd cd vl i lv) (X7_readOrder (some m) (hw σ (stR m I i lv (-ofN 1)) L)) := by
  have h1 := hK.1
  have hf : ∀ j, j ≤ T → fr j < 1000 := fun j hj => (hR.1 j hj).2.2.2
  unfold pOrd pAct
  by_cases c1 : cd i = 17
  · have hi2 : i < T := hK.pos (by omega)
    rw [if_pos c1]
    simp only [pBd_assoc, pBd_one]
    have hX : X7_readOrder (some m) (hw σ (stR m I i lv (-ofN 1)) L) = X7_readOrder_c18 (some m) (hw σ (stR m I (i + 1) lv (-ofN 1)) L) := by
      simp (disch := first | omega | assumption) only [X7_readOrder, R_takes h hR hK, c1, if_true, if_neg, mgI, mgL, mpI, mpZ0, mpZ1, mpL, mcT, rZ0, rZ1, mR1, mA1, mS1, mR2, mA2, mS2, mR3, mA3, mS3, mR4, mA4, mS4, mR5, mA5, mS5, mR6, mA6, mS6, mR7, mA7, mS7, mR8, mA8, mS8, mR10, mA10, mS10, mR14, mA14, mS14, mR15, mA15, mS15, mR18, mA18, mS18, mR19, mA19, mS19, mR20, mA20, mS20, mR29, mA29, mS29, mR32, mA32, mS32, mR33, mA33, mS33, mR34, mA34, mS34, mR35, mA35, mS35, mR37, mA37, mS37, mR38, mA38, mS38, mR39, mA39, mS39, mR40, mA40, mS40, mR41, mA41, mS41, mR43, mA43, mS43, mR46, mA46, mS46, mR47, mA47, mS47, mR48, mA48, mS48, mR49, mA49, mS49, mR50, mA50, mS50, mR51, mA51, mS51, mR52, mA52, mS52, mR53, mA53, mS53, mR60, mA60, mS60, mR61, mA61, mS61, Option.bind_some, ofN_add, ofN_mul, ofN_sub, ofN_lt, ofN_le, ofN_inj, ofN_dec, ofN_lt_neg, neg_lt_ofN, ofN_le_neg, neg_le_ofN, ofN_eq_neg, neg_eq_ofN, ofN_irm, ofN_div, l0, l1, l2, l3, l4, l5, l6, l7, l8, l9, l10, l11, l12, l13, l14, l15, l16, l17, l18, l19, l20, l21, l22, l23, l24, l25, l26, l27, l28, l29, l30, l31, l32, l33, l34, l35, l36, l37, l38, l39, l40, l41, l42, l43, l44, l45, l46, l47, l48, l49, l50, l51, l52, l53, l54, l55, l56, l57, l58, l59, l60, l61, l62, l63, l64, l65, l66, l67, l68, l69, l70, l71, l72, l73, l74, l75, l76, l77, l78, l79, l80, l81, l82, l83, l84, l85, l86, l87, l88, l89, l90, l91, l92, l93, l94, l95, l96, l97, l98, l99, l100, l101, l102, l103, l104, l105, l106, l107, l108, l109, l110, l111, l112, l113, l114, l115, l116, l117, l118, l119, l120, l121, l122, l123, l124, l125, l126, l127, l128, l129, l130, l131, l196, l200, l245, l255, l368, l369, l370, l382, l383, l384, l385, l386, l387, l388, l394, l395, l400, l401, l617, l738, l800, l999, l1000, l1500, l1600, l2400, l3195, l5920, l5995, l11990, l99999, l1000000, l100000000, l1000000000, l2000000000, l2147483647]
    rw [hX]
    exact R_two h hR hK (by omega) hl
  · rw [if_neg c1]
    by_cases c2 : cd i = 21
    · have hi2 : i < T := hK.pos (by omega)
      rw [if_pos c2]
      simp only [pBd_assoc, pBd_one]
      have hX : X7_readOrder (some m) (hw σ (stR m I i lv (-ofN 1)) L) = X7_readOrder_c18 (some m) (hw σ (stR m I (i + 1) lv (-ofN 1)) L) := by
        simp (disch := first | omega | assumption) only [X7_readOrder, R_takes h hR hK, c2, if_true, if_neg, mgI, mgL, mpI, mpZ0, mpZ1, mpL, mcT, rZ0, rZ1, mR1, mA1, mS1, mR2, mA2, mS2, mR3, mA3, mS3, mR4, mA4, mS4, mR5, mA5, mS5, mR6, mA6, mS6, mR7, mA7, mS7, mR8, mA8, mS8, mR10, mA10, mS10, mR14, mA14, mS14, mR15, mA15, mS15, mR18, mA18, mS18, mR19, mA19, mS19, mR20, mA20, mS20, mR29, mA29, mS29, mR32, mA32, mS32, mR33, mA33, mS33, mR34, mA34, mS34, mR35, mA35, mS35, mR37, mA37, mS37, mR38, mA38, mS38, mR39, mA39, mS39, mR40, mA40, mS40, mR41, mA41, mS41, mR43, mA43, mS43, mR46, mA46, mS46, mR47, mA47, mS47, mR48, mA48, mS48, mR49, mA49, mS49, mR50, mA50, mS50, mR51, mA51, mS51, mR52, mA52, mS52, mR53, mA53, mS53, mR60, mA60, mS60, mR61, mA61, mS61, Option.bind_some, ofN_add, ofN_mul, ofN_sub, ofN_lt, ofN_le, ofN_inj, ofN_dec, ofN_lt_neg, neg_lt_ofN, ofN_le_neg, neg_le_ofN, ofN_eq_neg, neg_eq_ofN, ofN_irm, ofN_div, l0, l1, l2, l3, l4, l5, l6, l7, l8, l9, l10, l11, l12, l13, l14, l15, l16, l17, l18, l19, l20, l21, l22, l23, l24, l25, l26, l27, l28, l29, l30, l31, l32, l33, l34, l35, l36, l37, l38, l39, l40, l41, l42, l43, l44, l45, l46, l47, l48, l49, l50, l51, l52, l53, l54, l55, l56, l57, l58, l59, l60, l61, l62, l63, l64, l65, l66, l67, l68, l69, l70, l71, l72, l73, l74, l75, l76, l77, l78, l79, l80, l81, l82, l83, l84, l85, l86, l87, l88, l89, l90, l91, l92, l93, l94, l95, l96, l97, l98, l99, l100, l101, l102, l103, l104, l105, l106, l107, l108, l109, l110, l111, l112, l113, l114, l115, l116, l117, l118, l119, l120, l121, l122, l123, l124, l125, l126, l127, l128, l129, l130, l131, l196, l200, l245, l255, l368, l369, l370, l382, l383, l384, l385, l386, l387, l388, l394, l395, l400, l401, l617, l738, l800, l999, l1000, l1500, l1600, l2400, l3195, l5920, l5995, l11990, l99999, l1000000, l100000000, l1000000000, l2000000000, l2147483647]
      rw [hX]
      exact R_two h hR hK (by omega) hl
    · rw [if_neg c2]
      by_cases c3 : cd i = 19
      · have hi2 : i < T := hK.pos (by omega)
        rw [if_pos c3]
        simp only [pBd_assoc, pBd_one]
        have hX : X7_readOrder (some m) (hw σ (stR m I i lv (-ofN 1)) L) = (X7_readSum 12 (some m) (ofN (8 - 8)) (hw σ (stR m I (i + 1) lv (-ofN 1)) L)).bind fun τ => (X7_readBehind (some m) (ofN 20) τ).bind fun τ => (X7_readBehind (some m) (ofN 18) τ).bind (X7_readOrder_c67 (some m)) := by
          simp (disch := first | omega | assumption) only [X7_readOrder, R_takes h hR hK, c3, ct_behind, if_true, if_neg, mgI, mgL, mpI, mpZ0, mpZ1, mpL, mcT, rZ0, rZ1, mR1, mA1, mS1, mR2, mA2, mS2, mR3, mA3, mS3, mR4, mA4, mS4, mR5, mA5, mS5, mR6, mA6, mS6, mR7, mA7, mS7, mR8, mA8, mS8, mR10, mA10, mS10, mR14, mA14, mS14, mR15, mA15, mS15, mR18, mA18, mS18, mR19, mA19, mS19, mR20, mA20, mS20, mR29, mA29, mS29, mR32, mA32, mS32, mR33, mA33, mS33, mR34, mA34, mS34, mR35, mA35, mS35, mR37, mA37, mS37, mR38, mA38, mS38, mR39, mA39, mS39, mR40, mA40, mS40, mR41, mA41, mS41, mR43, mA43, mS43, mR46, mA46, mS46, mR47, mA47, mS47, mR48, mA48, mS48, mR49, mA49, mS49, mR50, mA50, mS50, mR51, mA51, mS51, mR52, mA52, mS52, mR53, mA53, mS53, mR60, mA60, mS60, mR61, mA61, mS61, Option.bind_some, ofN_add, ofN_mul, ofN_sub, ofN_lt, ofN_le, ofN_inj, ofN_dec, ofN_lt_neg, neg_lt_ofN, ofN_le_neg, neg_le_ofN, ofN_eq_neg, neg_eq_ofN, ofN_irm, ofN_div, l0, l1, l2, l3, l4, l5, l6, l7, l8, l9, l10, l11, l12, l13, l14, l15, l16, l17, l18, l19, l20, l21, l22, l23, l24, l25, l26, l27, l28, l29, l30, l31, l32, l33, l34, l35, l36, l37, l38, l39, l40, l41, l42, l43, l44, l45, l46, l47, l48, l49, l50, l51, l52, l53, l54, l55, l56, l57, l58, l59, l60, l61, l62, l63, l64, l65, l66, l67, l68, l69, l70, l71, l72, l73, l74, l75, l76, l77, l78, l79, l80, l81, l82, l83, l84, l85, l86, l87, l88, l89, l90, l91, l92, l93, l94, l95, l96, l97, l98, l99, l100, l101, l102, l103, l104, l105, l106, l107, l108, l109, l110, l111, l112, l113, l114, l115, l116, l117, l118, l119, l120, l121, l122, l123, l124, l125, l126, l127, l128, l129, l130, l131, l196, l200, l245, l255, l368, l369, l370, l382, l383, l384, l385, l386, l387, l388, l394, l395, l400, l401, l617, l738, l800, l999, l1000, l1500, l1600, l2400, l3195, l5920, l5995, l11990, l99999, l1000000, l100000000, l1000000000, l2000000000, l2147483647]
        rw [hX]
        refine RdR.bind hf (R_sum h hR hK 8 12 (by omega) (by omega) (i + 1) lv (by omega) hl) (fun i1 lv1 d1 hp => ?_) (fun i lv j hj => ?_)
        · have r1 := pSum_rd hK 8 _ _ _ hp (by omega)
          dsimp only at r1
          refine RdR.bind hf (R_behind h hR hK (by omega) (by omega) r1.2.1 r1.2.2.2.1) (fun i2 lv2 d2 hp2 => ?_) (fun i lv j hj => ?_)
          · have r2 := pBehind_rd hK (by omega) hp2 r1.2.1
            dsimp only at r2
            refine RdR.bind hf (R_behind h hR hK (by omega) (by omega) r2.1 r2.2) (fun i3 lv3 d3 hp3 => ?_) (R_c67S h)
            have r3 := pBehind_rd hK (by omega) hp3 r2.1
            exact R_tail h hR hK r3.1 r3.2
          · rw [R_behindS h i lv j hj, Option.bind_some]
            exact R_c67S h i lv j hj
        · rw [R_behindS h i lv j hj, Option.bind_some, R_behindS h i lv j hj, Option.bind_some]
          exact R_c67S h i lv j hj
      · rw [if_neg c3]
        by_cases c4 : cd i = 22
        · have hi2 : i < T := hK.pos (by omega)
          rw [if_pos c4]
          simp only [pBd_one]
          have hX : X7_readOrder (some m) (hw σ (stR m I i lv (-ofN 1)) L) = X7_readOrder_c67 (some m) (hw σ (stR m I (i + 1) lv (-ofN 1)) L) := by
            simp (disch := first | omega | assumption) only [X7_readOrder, R_takes h hR hK, R_must h hR hK, c4, if_true, if_neg, mgI, mgL, mpI, mpZ0, mpZ1, mpL, mcT, rZ0, rZ1, mR1, mA1, mS1, mR2, mA2, mS2, mR3, mA3, mS3, mR4, mA4, mS4, mR5, mA5, mS5, mR6, mA6, mS6, mR7, mA7, mS7, mR8, mA8, mS8, mR10, mA10, mS10, mR14, mA14, mS14, mR15, mA15, mS15, mR18, mA18, mS18, mR19, mA19, mS19, mR20, mA20, mS20, mR29, mA29, mS29, mR32, mA32, mS32, mR33, mA33, mS33, mR34, mA34, mS34, mR35, mA35, mS35, mR37, mA37, mS37, mR38, mA38, mS38, mR39, mA39, mS39, mR40, mA40, mS40, mR41, mA41, mS41, mR43, mA43, mS43, mR46, mA46, mS46, mR47, mA47, mS47, mR48, mA48, mS48, mR49, mA49, mS49, mR50, mA50, mS50, mR51, mA51, mS51, mR52, mA52, mS52, mR53, mA53, mS53, mR60, mA60, mS60, mR61, mA61, mS61, Option.bind_some, ofN_add, ofN_mul, ofN_sub, ofN_lt, ofN_le, ofN_inj, ofN_dec, ofN_lt_neg, neg_lt_ofN, ofN_le_neg, neg_le_ofN, ofN_eq_neg, neg_eq_ofN, ofN_irm, ofN_div, l0, l1, l2, l3, l4, l5, l6, l7, l8, l9, l10, l11, l12, l13, l14, l15, l16, l17, l18, l19, l20, l21, l22, l23, l24, l25, l26, l27, l28, l29, l30, l31, l32, l33, l34, l35, l36, l37, l38, l39, l40, l41, l42, l43, l44, l45, l46, l47, l48, l49, l50, l51, l52, l53, l54, l55, l56, l57, l58, l59, l60, l61, l62, l63, l64, l65, l66, l67, l68, l69, l70, l71, l72, l73, l74, l75, l76, l77, l78, l79, l80, l81, l82, l83, l84, l85, l86, l87, l88, l89, l90, l91, l92, l93, l94, l95, l96, l97, l98, l99, l100, l101, l102, l103, l104, l105, l106, l107, l108, l109, l110, l111, l112, l113, l114, l115, l116, l117, l118, l119, l120, l121, l122, l123, l124, l125, l126, l127, l128, l129, l130, l131, l196, l200, l245, l255, l368, l369, l370, l382, l383, l384, l385, l386, l387, l388, l394, l395, l400, l401, l617, l738, l800, l999, l1000, l1500, l1600, l2400, l3195, l5920, l5995, l11990, l99999, l1000000, l100000000, l1000000000, l2000000000, l2147483647]
          rw [hX]
          exact R_tail h hR hK (by omega) hl
        · rw [if_neg c4, pBd_inl]
          refine Or.inl ⟨i, lv, rfl, hi, ?_⟩
          simp (disch := first | omega | assumption) only [X7_readOrder, R_takes h hR hK, R_must h hR hK, if_neg c1, if_neg c2, if_neg c3, if_neg c4, R_c67S h i lv (fr i) (hf i hi), if_true, if_neg, mgI, mgL, mpI, mpZ0, mpZ1, mpL, mcT, rZ0, rZ1, mR1, mA1, mS1, mR2, mA2, mS2, mR3, mA3, mS3, mR4, mA4, mS4, mR5, mA5, mS5, mR6, mA6, mS6, mR7, mA7, mS7, mR8, mA8, mS8, mR10, mA10, mS10, mR14, mA14, mS14, mR15, mA15, mS15, mR18, mA18, mS18, mR19, mA19, mS19, mR20, mA20, mS20, mR29, mA29, mS29, mR32, mA32, mS32, mR33, mA33, mS33, mR34, mA34, mS34, mR35, mA35, mS35, mR37, mA37, mS37, mR38, mA38, mS38, mR39, mA39, mS39, mR40, mA40, mS40, mR41, mA41, mS41, mR43, mA43, mS43, mR46, mA46, mS46, mR47, mA47, mS47, mR48, mA48, mS48, mR49, mA49, mS49, mR50, mA50, mS50, mR51, mA51, mS51, mR52, mA52, mS52, mR53, mA53, mS53, mR60, mA60, mS60, mR61, mA61, mS61, Option.bind_some, ofN_add, ofN_mul, ofN_sub, ofN_lt, ofN_le, ofN_inj, ofN_dec, ofN_lt_neg, neg_lt_ofN, ofN_le_neg, neg_le_ofN, ofN_eq_neg, neg_eq_ofN, ofN_irm, ofN_div, l0, l1, l2, l3, l4, l5, l6, l7, l8, l9, l10, l11, l12, l13, l14, l15, l16, l17, l18, l19, l20, l21, l22, l23, l24, l25, l26, l27, l28, l29, l30, l31, l32, l33, l34, l35, l36, l37, l38, l39, l40, l41, l42, l43, l44, l45, l46, l47, l48, l49, l50, l51, l52, l53, l54, l55, l56, l57, l58, l59, l60, l61, l62, l63, l64, l65, l66, l67, l68, l69, l70, l71, l72, l73, l74, l75, l76, l77, l78, l79, l80, l81, l82, l83, l84, l85, l86, l87, l88, l89, l90, l91, l92, l93, l94, l95, l96, l97, l98, l99, l100, l101, l102, l103, l104, l105, l106, l107, l108, l109, l110, l111, l112, l113, l114, l115, l116, l117, l118, l119, l120, l121, l122, l123, l124, l125, l126, l127, l128, l129, l130, l131, l196, l200, l245, l255, l368, l369, l370, l382, l383, l384, l385, l386, l387, l388, l394, l395, l400, l401, l617, l738, l800, l999, l1000, l1500, l1600, l2400, l3195, l5920, l5995, l11990, l99999, l1000000, l100000000, l1000000000, l2000000000, l2147483647]
end MREADS
