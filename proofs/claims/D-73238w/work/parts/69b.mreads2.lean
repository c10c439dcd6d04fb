set_option maxRecDepth 100000
/-! THE MODEL's READING, whole: behind the tokens' rows -/
def rEnd (l0 : Option Nat) (τ10 : Hp) : Option (Int32 × Hp) :=
    (cT τ10 l0 7).bind fun b12 =>
    (X7_fine l0  τ10).bind fun q11 =>
    if q11.1 = 0 then
      X7_reads_c95  l0  q11.2
    else
      (gI q11.2 l0 [7] 22).bind fun v14 =>
      (gI q11.2 l0 [7] 21).bind fun v15 =>
      if v15 ≤ v14 then
        X7_reads_c95  l0  q11.2
      else
        (cT q11.2 l0 7).bind fun b18 =>
        (X7_faults l0  q11.2).bind fun q17 =>
        X7_reads_c95  l0  q17
section MREADS2
variable {m : Nat} {σ : Hp} {I : IM} {L : LM} {ord : Bool} {cd vl fr : Nat → Nat} {T i lv : Nat} {b : Int32}
theorem pIf_rd (hK : Tk cd vl T) {q : Nat × Nat × Option DT} (hq : pIf ord cd vl i lv = .inr q) (hi : i ≤ T) (hl : lv ≤ 50) : q.1 ≤ T ∧ q.2.1 ≤ 50 := by
  unfold pIf at hq
  split at hq
  · next hc =>
    have hi2 : i < T := hK.pos (by omega)
    obtain ⟨i1, lv1, d, e1, e2⟩ := pBd_inr hq
    have := pTest_rd hK 8 _ _ _ e1 (by omega)
    cases e2
    exact ⟨this.2.1, this.2.2.2⟩
  · cases hq
    exact ⟨hi, hl⟩
theorem pCl_one (hK : Tk cd vl T) : ∀ i lv q, pCl ord cd vl i lv = .inr q → i ≤ T → lv ≤ 50 → q.1 ≤ T ∧ q.2.1 ≤ 50 := by
  intro i lv q hq hi hl
  unfold pCl at hq
  split at hq
  · next hc =>
    have hi2 : i < T := hK.pos (by omega)
    obtain ⟨i1, lv1, d, e1, e2⟩ := pBd_inr hq
    have r1 := pSum_rd hK 8 _ _ _ e1 (by omega)
    dsimp only at r1
    obtain ⟨i2, lv2, t, e3, e4⟩ := pBd_inr e2
    have r2 := pIf_rd hK e3 r1.2.1 r1.2.2.2.1
    cases e4
    exact r2
  · split at hq
    · next hc =>
      have hi2 : i < T := hK.pos (by omega)
      obtain ⟨i2, lv2, t, e3, e4⟩ := pBd_inr hq
      have r2 := pIf_rd hK e3 (by omega) hl
      cases e4
      exact r2
    · cases hq
theorem pAct_rd (hK : Tk cd vl T) {q : Nat × Nat × Nat × List DS} (hq : pAct cd vl i lv = .inr q) (hi : i ≤ T) (hl : lv ≤ 50) : q.1 ≤ T ∧ q.2.1 ≤ 50 := by
  unfold pAct at hq
  split at hq
  · next hc =>
    have hi2 : i < T := hK.pos (by omega)
    obtain ⟨i1, lv1, d, e1, e2⟩ := pBd_inr hq
    have r1 := pSum_rd hK 8 _ _ _ e1 (by omega)
    dsimp only at r1
    obtain ⟨i2, lv2, t, e3, e4⟩ := pBd_inr e2
    have r2 := pBehind_rd hK (by omega) e3 r1.2.1
    cases e4
    exact r2
  · split at hq
    · next hc =>
      have hi2 : i < T := hK.pos (by omega)
      obtain ⟨i1, lv1, d, e1, e2⟩ := pBd_inr hq
      have r1 := pSum_rd hK 8 _ _ _ e1 (by omega)
      dsimp only at r1
      obtain ⟨i2, lv2, t, e3, e4⟩ := pBd_inr e2
      have r2 := pBehind_rd hK (by omega) e3 r1.2.1
      cases e4
      exact r2
    · split at hq
      · next hc =>
        have hi2 : i < T := hK.pos (by omega)
        obtain ⟨i1, lv1, d, e1, e2⟩ := pBd_inr hq
        have r1 := pSum_rd hK 8 _ _ _ e1 (by omega)
        dsimp only at r1
        obtain ⟨i2, lv2, t, e3, e4⟩ := pBd_inr e2
        have r2 := pBehind_rd hK (by omega) e3 r1.2.1
        obtain ⟨i3, lv3, t3, e5, e6⟩ := pBd_inr e4
        have r3 := pBehind_rd hK (by omega) e5 r2.1
        cases e6
        exact r3
      · split at hq
        · next hc =>
          have hi2 : i < T := hK.pos (by omega)
          cases hq
          exact ⟨hi2, hl⟩
        · cases hq
theorem pOrd_one (hK : Tk cd vl T) : ∀ i lv q, pOrd cd vl i lv = .inr q → i ≤ T → lv ≤ 50 → q.1 ≤ T ∧ q.2.1 ≤ 50 := by
  intro i lv q hq hi hl
  unfold pOrd at hq
  obtain ⟨i1, lv1, d, e1, e2⟩ := pBd_inr hq
  have r1 := pAct_rd hK e1 hi hl
  dsimp only at r1
  obtain ⟨i2, lv2, t, e3, e4⟩ := pBd_inr e2
  have r2 : i2 ≤ T ∧ lv2 ≤ 50 := by
    unfold pTimes at e3
    split at e3
    · next hc =>
      unfold pNum at e3
      split at e3
      · next hd =>
        have : i1 + 1 < T := hK.pos (by omega)
        cases e3
        exact ⟨this, r1.2⟩
      · cases e3
    · cases e3
      exact r1
  obtain ⟨i3, lv3, t3, e5, e6⟩ := pBd_inr e4
  have r3 := pIf_rd hK e5 r2.1 r2.2
  cases e6
  exact r3
theorem R_oneL (h : MSh m σ) (hR : RdC m I false cd vl fr T) (hK : Tk cd vl T) : ∀ i lv, i ≤ T → lv ≤ 50 → RdR m σ I L fr T (pCl false cd vl i lv) (X7_readOne (some m) (hw σ (stR m I i lv (-ofN 1)) L)) := by
  intro i lv hi hl
  have e13 : I m 13 = ofN 0 := hR.2.2.2.1
  have hX : X7_readOne (some m) (hw σ (stR m I i lv (-ofN 1)) L) = X7_readClause (some m) (hw σ (stR m I i lv (-ofN 1)) L) := by
    simp (disch := first | omega | assumption) only [X7_readOne, stR_m, e13, bind_id, if_true, mgI, mgL, mpI, mpZ0, mpZ1, mpL, mcT, rZ0, rZ1, mR1, mA1, mS1, mR2, mA2, mS2, mR3, mA3, mS3, mR4, mA4, mS4, mR5, mA5, mS5, mR6, mA6, mS6, mR7, mA7, mS7, mR8, mA8, mS8, mR10, mA10, mS10, mR14, mA14, mS14, mR15, mA15, mS15, mR18, mA18, mS18, mR19, mA19, mS19, mR20, mA20, mS20, mR29, mA29, mS29, mR32, mA32, mS32, mR33, mA33, mS33, mR34, mA34, mS34, mR35, mA35, mS35, mR37, mA37, mS37, mR38, mA38, mS38, mR39, mA39, mS39, mR40, mA40, mS40, mR41, mA41, mS41, mR43, mA43, mS43, mR46, mA46, mS46, mR47, mA47, mS47, mR48, mA48, mS48, mR49, mA49, mS49, mR50, mA50, mS50, mR51, mA51, mS51, mR52, mA52, mS52, mR53, mA53, mS53, mR60, mA60, mS60, mR61, mA61, mS61, Option.bind_some, ofN_add, ofN_mul, ofN_sub, ofN_lt, ofN_le, ofN_inj, ofN_dec, ofN_lt_neg, neg_lt_ofN, ofN_le_neg, neg_le_ofN, ofN_eq_neg, neg_eq_ofN, ofN_irm, ofN_div, l0, l1, l2, l3, l4, l5, l6, l7, l8, l9, l10, l11, l12, l13, l14, l15, l16, l17, l18, l19, l20, l21, l22, l23, l24, l25, l26, l27, l28, l29, l30, l31, l32, l33, l34, l35, l36, l37, l38, l39, l40, l41, l42, l43, l44, l45, l46, l47, l48, l49, l50, l51, l52, l53, l54, l55, l56, l57, l58, l59, l60, l61, l62, l63, l64, l65, l66, l67, l68, l69, l70, l71, l72, l73, l74, l75, l76, l77, l78, l79, l80, l81, l82, l83, l84, l85, l86, l87, l88, l89, l90, l91, l92, l93, l94, l95, l96, l97, l98, l99, l100, l101, l102, l103, l104, l105, l106, l107, l108, l109, l110, l111, l112, l113, l114, l115, l116, l117, l118, l119, l120, l121, l122, l123, l124, l125, l126, l127, l128, l129, l130, l131, l196, l200, l245, l255, l368, l369, l370, l382, l383, l384, l385, l386, l387, l388, l394, l395, l400, l401, l617, l738, l800, l999, l1000, l1500, l1600, l2400, l3195, l5920, l5995, l11990, l99999, l1000000, l100000000, l1000000000, l2000000000, l2147483647]
  rw [hX]
  exact R_clause h hR hK hi hl
theorem R_oneO (h : MSh m σ) (hR : RdC m I true cd vl fr T) (hK : Tk cd vl T) : ∀ i lv, i ≤ T → lv ≤ 50 → RdR m σ I L fr T (pOrd cd vl i lv) (X7_readOne (some m) (hw σ (stR m I i lv (-ofN 1)) L)) := by
  intro i lv hi hl
  have e13 : I m 13 = ofN 1 := hR.2.2.2.1
  have hX : X7_readOne (some m) (hw σ (stR m I i lv (-ofN 1)) L) = X7_readOrder (some m) (hw σ (stR m I i lv (-ofN 1)) L) := by
    simp (disch := first | omega | assumption) only [X7_readOne, stR_m, e13, bind_id, if_neg, mgI, mgL, mpI, mpZ0, mpZ1, mpL, mcT, rZ0, rZ1, mR1, mA1, mS1, mR2, mA2, mS2, mR3, mA3, mS3, mR4, mA4, mS4, mR5, mA5, mS5, mR6, mA6, mS6, mR7, mA7, mS7, mR8, mA8, mS8, mR10, mA10, mS10, mR14, mA14, mS14, mR15, mA15, mS15, mR18, mA18, mS18, mR19, mA19, mS19, mR20, mA20, mS20, mR29, mA29, mS29, mR32, mA32, mS32, mR33, mA33, mS33, mR34, mA34, mS34, mR35, mA35, mS35, mR37, mA37, mS37, mR38, mA38, mS38, mR39, mA39, mS39, mR40, mA40, mS40, mR41, mA41, mS41, mR43, mA43, mS43, mR46, mA46, mS46, mR47, mA47, mS47, mR48, mA48, mS48, mR49, mA49, mS49, mR50, mA50, mS50, mR51, mA51, mS51, mR52, mA52, mS52, mR53, mA53, mS53, mR60, mA60, mS60, mR61, mA61, mS61, Option.bind_some, ofN_add, ofN_mul, ofN_sub, ofN_lt, ofN_le, ofN_inj, ofN_dec, ofN_lt_neg, neg_lt_ofN, ofN_le_neg, neg_le_ofN, ofN_eq_neg, neg_eq_ofN, ofN_irm, ofN_div, l0, l1, l2, l3, l4, l5, l6, l7, l8, l9, l10, l11, l12, l13, l14, l15, l16, l17, l18, l19, l20, l21, l22, l23, l24, l25, l26, l27, l28, l29, l30, l31, l32, l33, l34, l35, l36, l37, l38, l39, l40, l41, l42, l43, l44, l45, l46, l47, l48, l49, l50, l51, l52, l53, l54, l55, l56, l57, l58, l59, l60, l61, l62, l63, l64, l65, l66, l67, l68, l69, l70, l71, l72, l73, l74, l75, l76, l77, l78, l79, l80, l81, l82, l83, l84, l85, l86, l87, l88, l89, l90, l91, l92, l93, l94, l95, l96, l97, l98, l99, l100, l101, l102, l103, l104, l105, l106, l107, l108, l109, l110, l111, l112, l113, l114, l115, l116, l117, l118, l119, l120, l121, l122, l123, l124, l125, l126, l127, l128, l129, l130, l131, l196, l200, l245, l255, l368, l369, l370, l382, l383, l384, l385, l386, l387, l388, l394, l395, l400, l401, l617, l738, l800, l999, l1000, l1500, l1600, l2400, l3195, l5920, l5995, l11990, l99999, l1000000, l100000000, l1000000000, l2000000000, l2147483647]
  rw [hX]
  exact R_order h hR hK hi hl
/-- the end of a reading: what was said of the place -/
theorem R_end (h : MSh m σ) (hR : RdC m I ord cd vl fr T) (hK : Tk cd vl T) (hi : i ≤ T) :
    rEnd (some m) (hw σ (stR m I i lv (-ofN 1)) L) = (if T ≤ i then some (ofN 1, hw σ (up1 (stR m I i lv (-ofN 1)) m (ups (stR m I i lv (-ofN 1) m) 17 (-ofN 1))) L) else some (ofN 0, hw σ (up1 (stR m I i lv (ofN (fr i))) m (ups (stR m I i lv (ofN (fr i)) m) 17 (ofN (fr i)))) L)) := by
  have h1 := hK.1
  have hf := (hR.1 i hi).2.2.2
  have e21 := hR.2.2.2.2
  have u24 : ∀ (J : Nat → Int32) (v : Int32), ups J 17 v 24 = J 24 := fun J v => ups_ne (by omega)
  by_cases hy : T ≤ i
  · rw [if_pos hy]
    simp (disch := first | omega | assumption) only [rEnd, X7_reads_c95, R_fine h, X7_fine, stR_24, stR_22, stR_m, e21, up1_eq, u24, if_true, if_pos, if_neg, mgI, mgL, mpI, mpZ0, mpZ1, mpL, mcT, rZ0, rZ1, mR1, mA1, mS1, mR2, mA2, mS2, mR3, mA3, mS3, mR4, mA4, mS4, mR5, mA5, mS5, mR6, mA6, mS6, mR7, mA7, mS7, mR8, mA8, mS8, mR10, mA10, mS10, mR14, mA14, mS14, mR15, mA15, mS15, mR18, mA18, mS18, mR19, mA19, mS19, mR20, mA20, mS20, mR29, mA29, mS29, mR32, mA32, mS32, mR33, mA33, mS33, mR34, mA34, mS34, mR35, mA35, mS35, mR37, mA37, mS37, mR38, mA38, mS38, mR39, mA39, mS39, mR40, mA40, mS40, mR41, mA41, mS41, mR43, mA43, mS43, mR46, mA46, mS46, mR47, mA47, mS47, mR48, mA48, mS48, mR49, mA49, mS49, mR50, mA50, mS50, mR51, mA51, mS51, mR52, mA52, mS52, mR53, mA53, mS53, mR60, mA60, mS60, mR61, mA61, mS61, Option.bind_some, ofN_add, ofN_mul, ofN_sub, ofN_lt, ofN_le, ofN_inj, ofN_dec, ofN_lt_neg, neg_lt_ofN, ofN_le_neg, neg_le_ofN, ofN_eq_neg, neg_eq_ofN, ofN_irm, ofN_div, l0, l1, l2, l3, l4, l5, l6, l7, l8, l9, l10, l11, l12, l13, l14, l15, l16, l17, l18, l19, l20, l21, l22, l23, l24, l25, l26, l27, l28, l29, l30, l31, l32, l33, l34, l35, l36, l37, l38, l39, l40, l41, l42, l43, l44, l45, l46, l47, l48, l49, l50, l51, l52, l53, l54, l55, l56, l57, l58, l59, l60, l61, l62, l63, l64, l65, l66, l67, l68, l69, l70, l71, l72, l73, l74, l75, l76, l77, l78, l79, l80, l81, l82, l83, l84, l85, l86, l87, l88, l89, l90, l91, l92, l93, l94, l95, l96, l97, l98, l99, l100, l101, l102, l103, l104, l105, l106, l107, l108, l109, l110, l111, l112, l113, l114, l115, l116, l117, l118, l119, l120, l121, l122, l123, l124, l125, l126, l127, l128, l129, l130, l131, l196, l200, l245, l255, l368, l369, l370, l382, l383, l384, l385, l386, l387, l388, l394, l395, l400, l401, l617, l738, l800, l999, l1000, l1500, l1600, l2400, l3195, l5920, l5995, l11990, l99999, l1000000, l100000000, l1000000000, l2000000000, l2147483647]
  · rw [if_neg hy]
    simp (disch := first | omega | assumption) only [rEnd, X7_reads_c95, R_faults h hR, R_fine h, X7_fine, stR_24, stR_22, stR_m, e21, up1_eq, u24, if_true, if_false, if_neg, mgI, mgL, mpI, mpZ0, mpZ1, mpL, mcT, rZ0, rZ1, mR1, mA1, mS1, mR2, mA2, mS2, mR3, mA3, mS3, mR4, mA4, mS4, mR5, mA5, mS5, mR6, mA6, mS6, mR7, mA7, mS7, mR8, mA8, mS8, mR10, mA10, mS10, mR14, mA14, mS14, mR15, mA15, mS15, mR18, mA18, mS18, mR19, mA19, mS19, mR20, mA20, mS20, mR29, mA29, mS29, mR32, mA32, mS32, mR33, mA33, mS33, mR34, mA34, mS34, mR35, mA35, mS35, mR37, mA37, mS37, mR38, mA38, mS38, mR39, mA39, mS39, mR40, mA40, mS40, mR41, mA41, mS41, mR43, mA43, mS43, mR46, mA46, mS46, mR47, mA47, mS47, mR48, mA48, mS48, mR49, mA49, mS49, mR50, mA50, mS50, mR51, mA51, mS51, mR52, mA52, mS52, mR53, mA53, mS53, mR60, mA60, mS60, mR61, mA61, mS61, Option.bind_some, ofN_add, ofN_mul, ofN_sub, ofN_lt, ofN_le, ofN_inj, ofN_dec, ofN_lt_neg, neg_lt_ofN, ofN_le_neg, neg_le_ofN, ofN_eq_neg, neg_eq_ofN, ofN_irm, ofN_div, l0, l1, l2, l3, l4, l5, l6, l7, l8, l9, l10, l11, l12, l13, l14, l15, l16, l17, l18, l19, l20, l21, l22, l23, l24, l25, l26, l27, l28, l29, l30, l31, l32, l33, l34, l35, l36, l37, l38, l39, l40, l41, l42, l43, l44, l45, l46, l47, l48, l49, l50, l51, l52, l53, l54, l55, l56, l57, l58, l59, l60, l61, l62, l63, l64, l65, l66, l67, l68, l69, l70, l71, l72, l73, l74, l75, l76, l77, l78, l79, l80, l81, l82, l83, l84, l85, l86, l87, l88, l89, l90, l91, l92, l93, l94, l95, l96, l97, l98, l99, l100, l101, l102, l103, l104, l105, l106, l107, l108, l109, l110, l111, l112, l113, l114, l115, l116, l117, l118, l119, l120, l121, l122, l123, l124, l125, l126, l127, l128, l129, l130, l131, l196, l200, l245, l255, l368, l369, l370, l382, l383, l384, l385, l386, l387, l388, l394, l395, l400, l401, l617, l738, l800, l999, l1000, l1500, l1600, l2400, l3195, l5920, l5995, l11990, l99999, l1000000, l100000000, l1000000000, l2000000000, l2147483647]
theorem R_endB (h : MSh m σ) {j : Nat} (hj : j < 1000) :
    rEnd (some m) (hw σ (stR m I i lv (ofN j)) L) = some (ofN 0, hw σ (up1 (stR m I i lv (ofN j)) m (ups (stR m I i lv (ofN j) m) 17 (ofN j))) L) := by
  have u24 : ∀ (J : Nat → Int32) (v : Int32), ups J 17 v 24 = J 24 := fun J v => ups_ne (by omega)
  simp (disch := first | omega | assumption) only [rEnd, X7_reads_c95, R_bad h, X7_fine, stR_24, up1_eq, u24, if_true, if_false, mgI, mgL, mpI, mpZ0, mpZ1, mpL, mcT, rZ0, rZ1, mR1, mA1, mS1, mR2, mA2, mS2, mR3, mA3, mS3, mR4, mA4, mS4, mR5, mA5, mS5, mR6, mA6, mS6, mR7, mA7, mS7, mR8, mA8, mS8, mR10, mA10, mS10, mR14, mA14, mS14, mR15, mA15, mS15, mR18, mA18, mS18, mR19, mA19, mS19, mR20, mA20, mS20, mR29, mA29, mS29, mR32, mA32, mS32, mR33, mA33, mS33, mR34, mA34, mS34, mR35, mA35, mS35, mR37, mA37, mS37, mR38, mA38, mS38, mR39, mA39, mS39, mR40, mA40, mS40, mR41, mA41, mS41, mR43, mA43, mS43, mR46, mA46, mS46, mR47, mA47, mS47, mR48, mA48, mS48, mR49, mA49, mS49, mR50, mA50, mS50, mR51, mA51, mS51, mR52, mA52, mS52, mR53, mA53, mS53, mR60, mA60, mS60, mR61, mA61, mS61, Option.bind_some, ofN_add, ofN_mul, ofN_sub, ofN_lt, ofN_le, ofN_inj, ofN_dec, ofN_lt_neg, neg_lt_ofN, ofN_le_neg, neg_le_ofN, ofN_eq_neg, neg_eq_ofN, ofN_irm, ofN_div, l0, l1, l2, l3, l4, l5, l6, l7, l8, l9, l10, l11, l12, l13, l14, l15, l16, l17, l18, l19, l20, l21, l22, l23, l24, l25, l26, l27, l28, l29, l30, l31, l32, l33, l34, l35, l36, l37, l38, l39, l40, l41, l42, l43, l44, l45, l46, l47, l48, l49, l50, l51, l52, l53, l54, l55, l56, l57, l58, l59, l60, l61, l62, l63, l64, l65, l66, l67, l68, l69, l70, l71, l72, l73, l74, l75, l76, l77, l78, l79, l80, l81, l82, l83, l84, l85, l86, l87, l88, l89, l90, l91, l92, l93, l94, l95, l96, l97, l98, l99, l100, l101, l102, l103, l104, l105, l106, l107, l108, l109, l110, l111, l112, l113, l114, l115, l116, l117, l118, l119, l120, l121, l122, l123, l124, l125, l126, l127, l128, l129, l130, l131, l196, l200, l245, l255, l368, l369, l370, l382, l383, l384, l385, l386, l387, l388, l394, l395, l400, l401, l617, l738, l800, l999, l1000, l1500, l1600, l2400, l3195, l5920, l5995, l11990, l99999, l1000000, l100000000, l1000000000, l2000000000, l2147483647]
end MREADS2
