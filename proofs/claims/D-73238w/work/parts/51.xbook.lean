set_option maxRecDepth 100000
/-! A BOOK: what comes and goes -/
/-- a tenant's numbers, all different where they must be -/
def BD (B : Nat → Int32) (n ns nr l : Nat) : Prop := BN B n ns nr l ∧ Dst B 0 n ∧ Dst B 50 ns
section XBOOK
variable {σ : Hp} {I : IM} {L : LM} {b : Nat} {B : Nat → Int32} {Q : Nat → Int64}
theorem X_push (h : BkSh b σ) {n ns nr l : Nat} {key : Int32} (hr : BkRel I L b B Q) (hB : BD B n ns nr l) :
    ∃ I', X3_push (some b) key (hw σ I L) = some (hw σ I' L) ∧ FrI b (b + 6) I I' ∧ BkRel I' L b (pushB B key) Q := by
  have hpl := X_place (key := key) h hr hB.1.1.1 hB.1.1.2 hB.2.1
  have pa := push_at (key := key) hB.1
  obtain ⟨⟨⟨n0, n1⟩, ⟨s0, s1⟩, ⟨r0, r1⟩, lm0, lm1, lm2⟩, d1, d2⟩ := hB
  have hp := plcB_le (key := key) n0 (by omega)
  obtain ⟨x5, x6, x7, x8, xs, xc, xm, xr, xp, xq⟩ := hr
  rw [n0] at x5
  rw [r0] at x7
  rw [s0] at x6
  rw [n0, nat32_ofN (by omega)] at xs
  rw [r0, nat32_ofN (by omega)] at xr
  rw [s0, nat32_ofN (by omega)] at xm
  have im : imin (ofN n) (ofN 24) = ofN n := by
    unfold imin
    rw [if_neg]
    rw [ofN_lt (by omega) (by omega)]
    omega
  have fin : ∀ I', FrI b (b + 6) I I' → I' b 5 = ofN (if 0 < plcB B 0 key ∨ n = 24 then n else n + 1) → I' b 6 = I b 6 → I' b 7 = ofN (if nr = 32 then 32 else nr + 1) → I' b 8 = I b 8 → I' (b + 2) = I (b + 2) → I' (b + 3) = I (b + 3) →
      (∀ i, i < (if 0 < plcB B 0 key ∨ n = 24 then n else n + 1) → I' (b + 1) i = if i = 0 then key else if 0 < plcB B 0 key ∧ plcB B 0 key ≤ i then I (b + 1) i else I (b + 1) (i - 1)) →
      (∀ i, i < (if nr = 32 then 32 else nr + 1) → I' (b + 4) i = if i = (if nr = 32 then 31 else nr) then key else if nr = 32 then I (b + 4) (i + 1) else I (b + 4) i) → FrI b (b + 6) I I' ∧ BkRel I' L b (pushB B key) Q := by
    intro I' hf h5 h6 h7 h8 h2 h3 hst hre
    have p0 : pushB B key 0 = ofN (if 0 < plcB B 0 key ∨ n = 24 then n else n + 1) := by rw [pa 0, if_pos rfl]
    have p50 : pushB B key 50 = B 50 := by rw [pa 50]; grind
    have p58 : pushB B key 58 = B 58 := by rw [pa 58]; grind
    have p59 : pushB B key 59 = ofN (if nr = 32 then 32 else nr + 1) := by rw [pa 59]; grind
    refine ⟨hf, h5.trans p0.symm, by rw [h6, p50, s0]; exact x6, h7.trans p59.symm, by rw [h8, p58]; exact x8, ?_, ?_, ?_, ?_, xp, xq⟩
    · intro i hi
      rw [p0, nat32_ofN (by split <;> omega)] at hi
      rw [hst i hi, pa (1 + i)]
      have e1 : ∀ j, j < n → I (b + 1) j = B (1 + j) := xs
      grind
    · intro i hi
      rw [h2, xc i hi, pa (25 + i)]
      grind
    · intro i hi
      rw [p50, s0, nat32_ofN (by omega)] at hi
      rw [h3, xm i hi, pa (51 + i)]
      grind
    · intro i hi
      rw [p59, nat32_ofN (by split <;> omega)] at hi
      rw [hre i hi, pa (60 + i)]
      have e1 : ∀ j, j < nr → I (b + 4) j = B (60 + j) := xr
      grind
  rcases Nat.lt_or_ge nr 32 with hq | hq
  · rcases Nat.lt_or_ge 0 (plcB B 0 key) with hz | hz
    · simp (disch := first | omega | assumption) only [X3_push, X3_first, X3_first_c11, X3_push_c47, X3_push_c78, X3_leave, hpl, x5, x7, im, up1_eq, up1_ne, ups_eq, ups_ne, nar_int, if_pos, if_neg, bC0 h h, bC3 h h, bgI, bgL, bpI, bpZ0, bpZ1, bpL, bcT, bR0, bN0, bA0, bS0, bR1, bN1, bA1, bS1, bR2, bN2, bA2, bS2, bR3, bN3, bA3, bS3, bR4, bN4, bA4, bS4, Option.bind_some, ofN_add, ofN_mul, ofN_sub, ofN_lt, ofN_le, ofN_inj, ofN_dec, ofN_lt_neg, neg_lt_ofN, ofN_le_neg, neg_le_ofN, ofN_eq_neg, neg_eq_ofN, ofN_irm, ofN_div, l0, l1, l2, l3, l4, l5, l6, l7, l8, l9, l10, l11, l12, l13, l14, l15, l16, l17, l18, l19, l20, l21, l22, l23, l24, l25, l26, l27, l28, l29, l30, l31, l32, l33, l34, l35, l36, l37, l38, l39, l40, l41, l42, l43, l44, l45, l46, l47, l48, l49, l50, l51, l52, l53, l54, l55, l56, l57, l58, l59, l60, l61, l62, l63, l64, l65, l66, l67, l68, l69, l70, l71, l72, l73, l74, l75, l76, l77, l78, l79, l80, l81, l82, l83, l84, l85, l86, l87, l88, l89, l90, l91, l92, l93, l94, l95, l96, l97, l98, l99, l100, l101, l102, l103, l104, l105, l106, l107, l108, l109, l110, l111, l112, l113, l114, l115, l116, l117, l118, l119, l120, l121, l122, l123, l124, l125, l126, l127, l128, l129, l130, l131, l196, l200, l245, l255, l368, l369, l370, l382, l383, l384, l385, l386, l387, l388, l394, l395, l400, l401, l617, l738, l800, l999, l1000, l1500, l1600, l2400, l3195, l5920, l5995, l11990, l99999, l1000000, l100000000, l1000000000, l2000000000, l2147483647]
      refine ⟨_, rfl, fin _ ?_ ?_ ?_ ?_ ?_ ?_ ?_ ?_ ?_⟩
      · intro a ha; simp (disch := omega) only [up1_ne]
      all_goals try simp (disch := omega) only [up1_eq, up1_ne, ups_eq, ups_ne, x5, x7]
      all_goals clear pa fin hpl xs xc xm xr xp xq d1 d2
      all_goals first | (intro i hi; unfold ups; (try unfold va_cpy); grind) | grind
    · rcases Nat.lt_or_ge n 24 with hy | hy
      · simp (disch := first | omega | assumption) only [X3_push, X3_first, X3_first_c11, X3_push_c47, X3_push_c78, X3_leave, hpl, x5, x7, im, up1_eq, up1_ne, ups_eq, ups_ne, nar_int, if_pos, if_neg, bC0 h h, bC3 h h, bgI, bgL, bpI, bpZ0, bpZ1, bpL, bcT, bR0, bN0, bA0, bS0, bR1, bN1, bA1, bS1, bR2, bN2, bA2, bS2, bR3, bN3, bA3, bS3, bR4, bN4, bA4, bS4, Option.bind_some, ofN_add, ofN_mul, ofN_sub, ofN_lt, ofN_le, ofN_inj, ofN_dec, ofN_lt_neg, neg_lt_ofN, ofN_le_neg, neg_le_ofN, ofN_eq_neg, neg_eq_ofN, ofN_irm, ofN_div, l0, l1, l2, l3, l4, l5, l6, l7, l8, l9, l10, l11, l12, l13, l14, l15, l16, l17, l18, l19, l20, l21, l22, l23, l24, l25, l26, l27, l28, l29, l30, l31, l32, l33, l34, l35, l36, l37, l38, l39, l40, l41, l42, l43, l44, l45, l46, l47, l48, l49, l50, l51, l52, l53, l54, l55, l56, l57, l58, l59, l60, l61, l62, l63, l64, l65, l66, l67, l68, l69, l70, l71, l72, l73, l74, l75, l76, l77, l78, l79, l80, l81, l82, l83, l84, l85, l86, l87, l88, l89, l90, l91, l92, l93, l94, l95, l96, l97, l98, l99, l100, l101, l102, l103, l104, l105, l106, l107, l108, l109, l110, l111, l112, l113, l114, l115, l116, l117, l118, l119, l120, l121, l122, l123, l124, l125, l126, l127, l128, l129, l130, l131, l196, l200, l245, l255, l368, l369, l370, l382, l383, l384, l385, l386, l387, l388, l394, l395, l400, l401, l617, l738, l800, l999, l1000, l1500, l1600, l2400, l3195, l5920, l5995, l11990, l99999, l1000000, l100000000, l1000000000, l2000000000, l2147483647]
        refine ⟨_, rfl, fin _ ?_ ?_ ?_ ?_ ?_ ?_ ?_ ?_ ?_⟩
        · intro a ha; simp (disch := omega) only [up1_ne]
        all_goals try simp (disch := omega) only [up1_eq, up1_ne, ups_eq, ups_ne, x5, x7]
        all_goals clear pa fin hpl xs xc xm xr xp xq d1 d2
        all_goals first | (intro i hi; unfold ups; (try unfold va_cpy); grind) | grind
      · simp (disch := first | omega | assumption) only [X3_push, X3_first, X3_first_c11, X3_push_c47, X3_push_c78, X3_leave, hpl, x5, x7, im, up1_eq, up1_ne, ups_eq, ups_ne, nar_int, if_pos, if_neg, bC0 h h, bC3 h h, bgI, bgL, bpI, bpZ0, bpZ1, bpL, bcT, bR0, bN0, bA0, bS0, bR1, bN1, bA1, bS1, bR2, bN2, bA2, bS2, bR3, bN3, bA3, bS3, bR4, bN4, bA4, bS4, Option.bind_some, ofN_add, ofN_mul, ofN_sub, ofN_lt, ofN_le, ofN_inj, ofN_dec, ofN_lt_neg, neg_lt_ofN, ofN_le_neg, neg_le_ofN, ofN_eq_neg, neg_eq_ofN, ofN_irm, ofN_div, l0, l1, l2, l3, l4, l5, l6, l7, l8, l9, l10, l11, l12, l13, l14, l15, l16, l17, l18, l19, l20, l21, l22, l23, l24, l25, l26, l27, l28, l29, l30, l31, l32, l33, l34, l35, l36, l37, l38, l39, l40, l41, l42, l43, l44, l45, l46, l47, l48, l49, l50, l51, l52, l53, l54, l55, l56, l57, l58, l59, l60, l61, l62, l63, l64, l65, l66, l67, l68, l69, l70, l71, l72, l73, l74, l75, l76, l77, l78, l79, l80, l81, l82, l83, l84, l85, l86, l87, l88, l89, l90, l91, l92, l93, l94, l95, l96, l97, l98, l99, l100, l101, l102, l103, l104, l105, l106, l107, l108, l109, l110, l111, l112, l113, l114, l115, l116, l117, l118, l119, l120, l121, l122, l123, l124, l125, l126, l127, l128, l129, l130, l131, l196, l200, l245, l255, l368, l369, l370, l382, l383, l384, l385, l386, l387, l388, l394, l395, l400, l401, l617, l738, l800, l999, l1000, l1500, l1600, l2400, l3195, l5920, l5995, l11990, l99999, l1000000, l100000000, l1000000000, l2000000000, l2147483647]
        refine ⟨_, rfl, fin _ ?_ ?_ ?_ ?_ ?_ ?_ ?_ ?_ ?_⟩
        · intro a ha; simp (disch := omega) only [up1_ne]
        all_goals try simp (disch := omega) only [up1_eq, up1_ne, ups_eq, ups_ne, x5, x7]
        all_goals clear pa fin hpl xs xc xm xr xp xq d1 d2
        all_goals first | (intro i hi; unfold ups; (try unfold va_cpy); grind) | grind
  · rcases Nat.lt_or_ge 0 (plcB B 0 key) with hz | hz
    · simp (disch := first | omega | assumption) only [X3_push, X3_first, X3_first_c11, X3_push_c47, X3_push_c78, X3_leave, hpl, x5, x7, im, up1_eq, up1_ne, ups_eq, ups_ne, nar_int, if_pos, if_neg, bC0 h h, bC3 h h, bgI, bgL, bpI, bpZ0, bpZ1, bpL, bcT, bR0, bN0, bA0, bS0, bR1, bN1, bA1, bS1, bR2, bN2, bA2, bS2, bR3, bN3, bA3, bS3, bR4, bN4, bA4, bS4, Option.bind_some, ofN_add, ofN_mul, ofN_sub, ofN_lt, ofN_le, ofN_inj, ofN_dec, ofN_lt_neg, neg_lt_ofN, ofN_le_neg, neg_le_ofN, ofN_eq_neg, neg_eq_ofN, ofN_irm, ofN_div, l0, l1, l2, l3, l4, l5, l6, l7, l8, l9, l10, l11, l12, l13, l14, l15, l16, l17, l18, l19, l20, l21, l22, l23, l24, l25, l26, l27, l28, l29, l30, l31, l32, l33, l34, l35, l36, l37, l38, l39, l40, l41, l42, l43, l44, l45, l46, l47, l48, l49, l50, l51, l52, l53, l54, l55, l56, l57, l58, l59, l60, l61, l62, l63, l64, l65, l66, l67, l68, l69, l70, l71, l72, l73, l74, l75, l76, l77, l78, l79, l80, l81, l82, l83, l84, l85, l86, l87, l88, l89, l90, l91, l92, l93, l94, l95, l96, l97, l98, l99, l100, l101, l102, l103, l104, l105, l106, l107, l108, l109, l110, l111, l112, l113, l114, l115, l116, l117, l118, l119, l120, l121, l122, l123, l124, l125, l126, l127, l128, l129, l130, l131, l196, l200, l245, l255, l368, l369, l370, l382, l383, l384, l385, l386, l387, l388, l394, l395, l400, l401, l617, l738, l800, l999, l1000, l1500, l1600, l2400, l3195, l5920, l5995, l11990, l99999, l1000000, l100000000, l1000000000, l2000000000, l2147483647]
      refine ⟨_, rfl, fin _ ?_ ?_ ?_ ?_ ?_ ?_ ?_ ?_ ?_⟩
      · intro a ha; simp (disch := omega) only [up1_ne]
      all_goals try simp (disch := omega) only [up1_eq, up1_ne, ups_eq, ups_ne, x5, x7]
      all_goals clear pa fin hpl xs xc xm xr xp xq d1 d2
      all_goals first | (intro i hi; unfold ups; (try unfold va_cpy); grind) | grind
    · rcases Nat.lt_or_ge n 24 with hy | hy
      · simp (disch := first | omega | assumption) only [X3_push, X3_first, X3_first_c11, X3_push_c47, X3_push_c78, X3_leave, hpl, x5, x7, im, up1_eq, up1_ne, ups_eq, ups_ne, nar_int, if_pos, if_neg, bC0 h h, bC3 h h, bgI, bgL, bpI, bpZ0, bpZ1, bpL, bcT, bR0, bN0, bA0, bS0, bR1, bN1, bA1, bS1, bR2, bN2, bA2, bS2, bR3, bN3, bA3, bS3, bR4, bN4, bA4, bS4, Option.bind_some, ofN_add, ofN_mul, ofN_sub, ofN_lt, ofN_le, ofN_inj, ofN_dec, ofN_lt_neg, neg_lt_ofN, ofN_le_neg, neg_le_ofN, ofN_eq_neg, neg_eq_ofN, ofN_irm, ofN_div, l0, l1, l2, l3, l4, l5, l6, l7, l8, l9, l10, l11, l12, l13, l14, l15, l16, l17, l18, l19, l20, l21, l22, l23, l24, l25, l26, l27, l28, l29, l30, l31, l32, l33, l34, l35, l36, l37, l38, l39, l40, l41, l42, l43, l44, l45, l46, l47, l48, l49, l50, l51, l52, l53, l54, l55, l56, l57, l58, l59, l60, l61, l62, l63, l64, l65, l66, l67, l68, l69, l70, l71, l72, l73, l74, l75, l76, l77, l78, l79, l80, l81, l82, l83, l84, l85, l86, l87, l88, l89, l90, l91, l92, l93, l94, l95, l96, l97, l98, l99, l100, l101, l102, l103, l104, l105, l106, l107, l108, l109, l110, l111, l112, l113, l114, l115, l116, l117, l118, l119, l120, l121, l122, l123, l124, l125, l126, l127, l128, l129, l130, l131, l196, l200, l245, l255, l368, l369, l370, l382, l383, l384, l385, l386, l387, l388, l394, l395, l400, l401, l617, l738, l800, l999, l1000, l1500, l1600, l2400, l3195, l5920, l5995, l11990, l99999, l1000000, l100000000, l1000000000, l2000000000, l2147483647]
        refine ⟨_, rfl, fin _ ?_ ?_ ?_ ?_ ?_ ?_ ?_ ?_ ?_⟩
        · intro a ha; simp (disch := omega) only [up1_ne]
        all_goals try simp (disch := omega) only [up1_eq, up1_ne, ups_eq, ups_ne, x5, x7]
        all_goals clear pa fin hpl xs xc xm xr xp xq d1 d2
        all_goals first | (intro i hi; unfold ups; (try unfold va_cpy); grind) | grind
      · simp (disch := first | omega | assumption) only [X3_push, X3_first, X3_first_c11, X3_push_c47, X3_push_c78, X3_leave, hpl, x5, x7, im, up1_eq, up1_ne, ups_eq, ups_ne, nar_int, if_pos, if_neg, bC0 h h, bC3 h h, bgI, bgL, bpI, bpZ0, bpZ1, bpL, bcT, bR0, bN0, bA0, bS0, bR1, bN1, bA1, bS1, bR2, bN2, bA2, bS2, bR3, bN3, bA3, bS3, bR4, bN4, bA4, bS4, Option.bind_some, ofN_add, ofN_mul, ofN_sub, ofN_lt, ofN_le, ofN_inj, ofN_dec, ofN_lt_neg, neg_lt_ofN, ofN_le_neg, neg_le_ofN, ofN_eq_neg, neg_eq_ofN, ofN_irm, ofN_div, l0, l1, l2, l3, l4, l5, l6, l7, l8, l9, l10, l11, l12, l13, l14, l15, l16, l17, l18, l19, l20, l21, l22, l23, l24, l25, l26, l27, l28, l29, l30, l31, l32, l33, l34, l35, l36, l37, l38, l39, l40, l41, l42, l43, l44, l45, l46, l47, l48, l49, l50, l51, l52, l53, l54, l55, l56, l57, l58, l59, l60, l61, l62, l63, l64, l65, l66, l67, l68, l69, l70, l71, l72, l73, l74, l75, l76, l77, l78, l79, l80, l81, l82, l83, l84, l85, l86, l87, l88, l89, l90, l91, l92, l93, l94, l95, l96, l97, l98, l99, l100, l101, l102, l103, l104, l105, l106, l107, l108, l109, l110, l111, l112, l113, l114, l115, l116, l117, l118, l119, l120, l121, l122, l123, l124, l125, l126, l127, l128, l129, l130, l131, l196, l200, l245, l255, l368, l369, l370, l382, l383, l384, l385, l386, l387, l388, l394, l395, l400, l401, l617, l738, l800, l999, l1000, l1500, l1600, l2400, l3195, l5920, l5995, l11990, l99999, l1000000, l100000000, l1000000000, l2000000000, l2147483647]
        refine ⟨_, rfl, fin _ ?_ ?_ ?_ ?_ ?_ ?_ ?_ ?_ ?_⟩
        · intro a ha; simp (disch := omega) only [up1_ne]
        all_goals try simp (disch := omega) only [up1_eq, up1_ne, ups_eq, ups_ne, x5, x7]
        all_goals clear pa fin hpl xs xc xm xr xp xq d1 d2
        all_goals first | (intro i hi; unfold ups; (try unfold va_cpy); grind) | grind
end XBOOK
