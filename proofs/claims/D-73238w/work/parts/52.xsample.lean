set_option maxRecDepth 100000
/-! A BOOK's SAMPLE -/
theorem imax_le {x y : Int32} : imax x y = if x ≤ y then y else x := by
  unfold imax
  by_cases h : x < y
  · rw [if_pos h, if_pos (Int32.le_of_lt h)]
  · rw [if_neg h]
    by_cases h2 : x ≤ y
    · rw [if_pos h2]
      exact Int32.le_antisymm h2 (Int32.not_lt.mp h)
    · rw [if_neg h2]
theorem thinF_out {s lim : Int32} {j : Nat} (hj : j < 50 ∨ 58 ≤ j) : ∀ (k n : Nat) (B : Nat → Int32), B 50 = ofN n → n ≤ 7 → k ≤ n → thinF s lim k B j = B j
  | 0, _, _, _, _, _ => rfl
  | k + 1, n, B, hn, h7, hk => by
    rw [thinF1]
    split
    · exact thinF_out hj k n B hn h7 (by omega)
    · rw [thinF_out hj k (n - 1) _ (outB_n hn (by omega)) (by omega) (by omega)]
      exact outB_ne hn (by omega) (by omega) (by omega)
theorem thinF_n {s lim : Int32} : ∀ (k n : Nat) (B : Nat → Int32), B 50 = ofN n → n ≤ 7 → k ≤ n → ∃ n', n' ≤ n ∧ thinF s lim k B 50 = ofN n'
  | 0, n, _, hn, _, _ => ⟨n, Nat.le_refl _, hn⟩
  | k + 1, n, B, hn, h7, hk => by
    rw [thinF1]
    split
    · exact thinF_n k n B hn h7 (by omega)
    · obtain ⟨n', h1, h2⟩ := thinF_n (s := s) (lim := lim) k (n - 1) (outB B 50 (k + 1)) (outB_n hn (by omega)) (by omega) (by omega)
      exact ⟨n', by omega, h2⟩
section XSAMPLE
variable {σ : Hp} {I : IM} {L : LM} {b : Nat} {B : Nat → Int32} {Q : Nat → Int64}
theorem X_maxF (h : BkSh b σ) {n : Nat} {s : Int32} {kk : Int32 → Hp → Option Hp} (h6 : I b 6 = ofN n) (h7 : n ≤ 7) (hS : ∀ i, i < n → I (b + 3) i = B (51 + i)) : ∀ (r fuel k : Nat) (x : Int32), n = k + r → r < fuel →
    X3_sampleIt_c104 (some b) s kk fuel x (ofN k) (hw σ I L) = kk (maxF B s r (k + 1) x) (hw σ I L) := by
  intro r
  induction r with
  | zero =>
    intro fuel k x hk hf
    obtain ⟨f, rfl⟩ : ∃ f, fuel = f + 1 := ⟨fuel - 1, by omega⟩
    simp (disch := first | omega | assumption) only [X3_sampleIt_c104, maxF, h6, bgI, bgL, bpI, bpZ0, bpZ1, bpL, bcT, bR0, bN0, bA0, bS0, bR1, bN1, bA1, bS1, bR2, bN2, bA2, bS2, bR3, bN3, bA3, bS3, bR4, bN4, bA4, bS4, Option.bind_some, ofN_add, ofN_mul, ofN_sub, ofN_lt, ofN_le, ofN_inj, ofN_dec, ofN_lt_neg, neg_lt_ofN, ofN_le_neg, neg_le_ofN, ofN_eq_neg, neg_eq_ofN, ofN_irm, ofN_div, l0, l1, l2, l3, l4, l5, l6, l7, l8, l9, l10, l11, l12, l13, l14, l15, l16, l17, l18, l19, l20, l21, l22, l23, l24, l25, l26, l27, l28, l29, l30, l31, l32, l33, l34, l35, l36, l37, l38, l39, l40, l41, l42, l43, l44, l45, l46, l47, l48, l49, l50, l51, l52, l53, l54, l55, l56, l57, l58, l59, l60, l61, l62, l63, l64, l65, l66, l67, l68, l69, l70, l71, l72, l73, l74, l75, l76, l77, l78, l79, l80, l81, l82, l83, l84, l85, l86, l87, l88, l89, l90, l91, l92, l93, l94, l95, l96, l97, l98, l99, l100, l101, l102, l103, l104, l105, l106, l107, l108, l109, l110, l111, l112, l113, l114, l115, l116, l117, l118, l119, l120, l121, l122, l123, l124, l125, l126, l127, l128, l129, l130, l131, l196, l200, l245, l255, l368, l369, l370, l382, l383, l384, l385, l386, l387, l388, l394, l395, l400, l401, l617, l738, l800, l999, l1000, l1500, l1600, l2400, l3195, l5920, l5995, l11990, l99999, l1000000, l100000000, l1000000000, l2000000000, l2147483647]
    rw [if_pos (by omega)]
  | succ r ih =>
    intro fuel k x hk hf
    obtain ⟨f, rfl⟩ : ∃ f, fuel = f + 1 := ⟨fuel - 1, by omega⟩
    simp (disch := first | omega | assumption) only [X3_sampleIt_c104, X0_hashOf, maxF, h6, hS, bgI, bgL, bpI, bpZ0, bpZ1, bpL, bcT, bR0, bN0, bA0, bS0, bR1, bN1, bA1, bS1, bR2, bN2, bA2, bS2, bR3, bN3, bA3, bS3, bR4, bN4, bA4, bS4, Option.bind_some, ofN_add, ofN_mul, ofN_sub, ofN_lt, ofN_le, ofN_inj, ofN_dec, ofN_lt_neg, neg_lt_ofN, ofN_le_neg, neg_le_ofN, ofN_eq_neg, neg_eq_ofN, ofN_irm, ofN_div, l0, l1, l2, l3, l4, l5, l6, l7, l8, l9, l10, l11, l12, l13, l14, l15, l16, l17, l18, l19, l20, l21, l22, l23, l24, l25, l26, l27, l28, l29, l30, l31, l32, l33, l34, l35, l36, l37, l38, l39, l40, l41, l42, l43, l44, l45, l46, l47, l48, l49, l50, l51, l52, l53, l54, l55, l56, l57, l58, l59, l60, l61, l62, l63, l64, l65, l66, l67, l68, l69, l70, l71, l72, l73, l74, l75, l76, l77, l78, l79, l80, l81, l82, l83, l84, l85, l86, l87, l88, l89, l90, l91, l92, l93, l94, l95, l96, l97, l98, l99, l100, l101, l102, l103, l104, l105, l106, l107, l108, l109, l110, l111, l112, l113, l114, l115, l116, l117, l118, l119, l120, l121, l122, l123, l124, l125, l126, l127, l128, l129, l130, l131, l196, l200, l245, l255, l368, l369, l370, l382, l383, l384, l385, l386, l387, l388, l394, l395, l400, l401, l617, l738, l800, l999, l1000, l1500, l1600, l2400, l3195, l5920, l5995, l11990, l99999, l1000000, l100000000, l1000000000, l2000000000, l2147483647]
    rw [if_neg (by omega), ih f (k + 1) _ (by omega) (by omega), imax_le, show 51 + k = 50 + (k + 1) by omega]
    rfl
theorem X_thinF (h : BkSh b σ) {s lim : Int32} : ∀ (k fuel n : Nat) (I : IM) (B : Nat → Int32), I b 6 = ofN n → I b 8 = lim → B 50 = ofN n → n ≤ 7 → (∀ i, i < n → I (b + 3) i = B (51 + i)) → k ≤ n → k < fuel →
    ∃ R', X3_sampleIt_c150 (some b) s fuel (ofN k) (hw σ I L) = some (hw σ (up1 (up1 I b (ups (I b) 6 (thinF s lim k B 50))) (b + 3) R') L) ∧ ∀ i, i < nat32 (thinF s lim k B 50) → R' i = thinF s lim k B (51 + i) := by
  intro k
  induction k with
  | zero =>
    intro fuel n I B h6 h8 hB h7 hS hk hf
    obtain ⟨f, rfl⟩ : ∃ f, fuel = f + 1 := ⟨fuel - 1, by omega⟩
    have e0 : ofN 0 ≤ (0 : Int32) := by rw [l0, ofN_le (by omega) (by omega)]; omega
    refine ⟨I (b + 3), ?_, ?_⟩
    · rw [X3_sampleIt_c150, if_pos e0, show thinF s lim 0 B = B from rfl, hB, ← h6]
      have e1 : ups (I b) 6 (I b 6) = I b := by
        funext j
        unfold ups
        split
        · next e => rw [e]
        · rfl
      rw [e1, up1_self, up1_self]
    · rw [show thinF s lim 0 B = B from rfl, hB, nat32_ofN (by omega)]
      exact hS
  | succ k ih =>
    intro fuel n I B h6 h8 hB h7 hS hk hf
    obtain ⟨f, rfl⟩ : ∃ f, fuel = f + 1 := ⟨fuel - 1, by omega⟩
    have e1 : hs s (I (b + 3) k) = hs s (B (50 + (k + 1))) := by rw [hS k (by omega), show 51 + k = 50 + (k + 1) by omega]
    rw [thinF1, ← e1]
    have e2 : irm (ofN 617 * I (b + 3) k + s) (ofN 1000) = hs s (I (b + 3) k) := rfl
    simp (disch := first | omega | assumption) only [X3_sampleIt_c150, X0_hashOf, X3_leave, h8, h6, e2, bC2 h h, up1_eq, up1_ne, ups_eq, ups_ne, bgI, bgL, bpI, bpZ0, bpZ1, bpL, bcT, bR0, bN0, bA0, bS0, bR1, bN1, bA1, bS1, bR2, bN2, bA2, bS2, bR3, bN3, bA3, bS3, bR4, bN4, bA4, bS4, Option.bind_some, ofN_add, ofN_mul, ofN_sub, ofN_lt, ofN_le, ofN_inj, ofN_dec, ofN_lt_neg, neg_lt_ofN, ofN_le_neg, neg_le_ofN, ofN_eq_neg, neg_eq_ofN, ofN_irm, ofN_div, l0, l1, l2, l3, l4, l5, l6, l7, l8, l9, l10, l11, l12, l13, l14, l15, l16, l17, l18, l19, l20, l21, l22, l23, l24, l25, l26, l27, l28, l29, l30, l31, l32, l33, l34, l35, l36, l37, l38, l39, l40, l41, l42, l43, l44, l45, l46, l47, l48, l49, l50, l51, l52, l53, l54, l55, l56, l57, l58, l59, l60, l61, l62, l63, l64, l65, l66, l67, l68, l69, l70, l71, l72, l73, l74, l75, l76, l77, l78, l79, l80, l81, l82, l83, l84, l85, l86, l87, l88, l89, l90, l91, l92, l93, l94, l95, l96, l97, l98, l99, l100, l101, l102, l103, l104, l105, l106, l107, l108, l109, l110, l111, l112, l113, l114, l115, l116, l117, l118, l119, l120, l121, l122, l123, l124, l125, l126, l127, l128, l129, l130, l131, l196, l200, l245, l255, l368, l369, l370, l382, l383, l384, l385, l386, l387, l388, l394, l395, l400, l401, l617, l738, l800, l999, l1000, l1500, l1600, l2400, l3195, l5920, l5995, l11990, l99999, l1000000, l100000000, l1000000000, l2000000000, l2147483647]
    rw [if_neg (by omega), show k + 1 - 1 = k by omega]
    by_cases hx : lim ≤ hs s (I (b + 3) k)
    · rw [if_pos (show lim ≤ irm (ofN 617 * I (b + 3) k + s) (ofN 1000) from hx), if_neg (Int32.not_lt.mpr hx)]
      obtain ⟨R', e5, h5⟩ := ih f (n - 1) (up1 (up1 I (b + 3) (va_cpy (I (b + 3)) (I (b + 3)) (k + 1) k (n - (k + 1)))) b (ups (I b) 6 (ofN (n - 1)))) (outB B 50 (k + 1))
        (by rw [up1_eq, ups_eq]) (by rw [up1_eq, ups_ne (by omega)]; exact h8) (outB_n hB (by omega)) (by omega)
        (fun i hi => by
          rw [up1_ne (by omega), up1_eq, outB_at hB (by omega)]
          unfold va_cpy
          rw [if_neg (show ¬ 51 + i = 50 by omega)]
          by_cases hi2 : k ≤ i
          · rw [if_pos (show k ≤ i ∧ i < k + (n - (k + 1)) by omega), if_pos (show 50 + (k + 1) ≤ 51 + i ∧ 51 + i < 50 + n by omega), hS _ (by omega)]
            congr 1
            omega
          · rw [if_neg (show ¬ (k ≤ i ∧ i < k + (n - (k + 1))) by omega), if_neg (show ¬ (50 + (k + 1) ≤ 51 + i ∧ 51 + i < 50 + n) by omega), hS _ (by omega)]) (by omega) (by omega)
      refine ⟨R', ?_, h5⟩
      rw [e5]
      congr 2
      rw [up1_eq]
      funext a
      unfold up1 ups
      grind
    · rw [if_neg (show ¬ lim ≤ irm (ofN 617 * I (b + 3) k + s) (ofN 1000) from hx), if_pos (Int32.not_le.mp hx)]
      exact ih f n I B h6 h8 hB h7 hS (by omega) (by omega)
/-- what a call may change of a Book's ints: all but the stack, the costs and the record, and of its numbers 6 and 8 -/
theorem sampT_at {s key : Int32} {n j : Nat} (hn : B 50 = ofN n) (hb : n ≤ 6) (hj : j < 50 ∨ 59 ≤ j) : sampT B key s j = B j := by
  have e1 : firstB B 50 key 50 = ofN (n + 1) := firstB_n hn
  have e2 : firstB B 50 key j = B j := firstB_ne hn (by omega) (by omega)
  unfold sampT
  split
  · exact e2
  · unfold thinB
    rw [e1, nat32_ofN (by omega), thinF_out (by omega) (n + 1) (n + 1) _ (by rw [ups_ne (by omega)]; exact e1) (by omega) (Nat.le_refl _), ups_ne (by omega)]
    exact e2
theorem X_c88 (h : BkSh b σ) {n : Nat} {s key : Int32} (h6 : I b 6 = ofN (n + 1)) (hn : B 50 = ofN n) (hb : n ≤ 6) (h8 : I b 8 = B 58) (hS : ∀ i, i < n + 1 → I (b + 3) i = firstB B 50 key (51 + i)) :
    ∃ v8 R', X3_sampleIt_c88 (some b) s (hw σ I L) = some (hw σ (up1 (up1 I b (ups (ups (I b) 8 v8) 6 (sampT B key s 50))) (b + 3) R') L) ∧ v8 = sampT B key s 58 ∧ ∀ i, i < nat32 (sampT B key s 50) → R' i = sampT B key s (51 + i) := by
  have e1 : firstB B 50 key 50 = ofN (n + 1) := firstB_n hn
  have e58 : firstB B 50 key 58 = B 58 := firstB_ne hn (by omega) (by omega)
  simp (disch := first | omega | assumption) only [X3_sampleIt_c88, h6, bgI, bgL, bpI, bpZ0, bpZ1, bpL, bcT, bR0, bN0, bA0, bS0, bR1, bN1, bA1, bS1, bR2, bN2, bA2, bS2, bR3, bN3, bA3, bS3, bR4, bN4, bA4, bS4, Option.bind_some, ofN_add, ofN_mul, ofN_sub, ofN_lt, ofN_le, ofN_inj, ofN_dec, ofN_lt_neg, neg_lt_ofN, ofN_le_neg, neg_le_ofN, ofN_eq_neg, neg_eq_ofN, ofN_irm, ofN_div, l0, l1, l2, l3, l4, l5, l6, l7, l8, l9, l10, l11, l12, l13, l14, l15, l16, l17, l18, l19, l20, l21, l22, l23, l24, l25, l26, l27, l28, l29, l30, l31, l32, l33, l34, l35, l36, l37, l38, l39, l40, l41, l42, l43, l44, l45, l46, l47, l48, l49, l50, l51, l52, l53, l54, l55, l56, l57, l58, l59, l60, l61, l62, l63, l64, l65, l66, l67, l68, l69, l70, l71, l72, l73, l74, l75, l76, l77, l78, l79, l80, l81, l82, l83, l84, l85, l86, l87, l88, l89, l90, l91, l92, l93, l94, l95, l96, l97, l98, l99, l100, l101, l102, l103, l104, l105, l106, l107, l108, l109, l110, l111, l112, l113, l114, l115, l116, l117, l118, l119, l120, l121, l122, l123, l124, l125, l126, l127, l128, l129, l130, l131, l196, l200, l245, l255, l368, l369, l370, l382, l383, l384, l385, l386, l387, l388, l394, l395, l400, l401, l617, l738, l800, l999, l1000, l1500, l1600, l2400, l3195, l5920, l5995, l11990, l99999, l1000000, l100000000, l1000000000, l2000000000, l2147483647]
  unfold sampT
  rw [e1]
  by_cases hx : ofN (n + 1) ≤ ofN 6
  · have hx' : n + 1 ≤ 6 := by rw [ofN_le (by omega) (by omega)] at hx; exact hx
    rw [if_neg (by omega), if_pos hx]
    refine ⟨I b 8, I (b + 3), ?_, by rw [h8, e58], fun i hi => hS i ?_⟩
    · rw [e1, ← h6]
      congr 2
      funext a
      unfold up1 ups
      grind
    · rw [e1, nat32_ofN (by omega)] at hi
      exact hi
  · have hx' : ¬ n + 1 ≤ 6 := by rw [ofN_le (by omega) (by omega)] at hx; exact hx
    rw [if_pos (by omega), if_neg hx]
    rw [X_maxF (B := firstB B 50 key) h h6 (by omega) hS (n + 1) FUEL 0 (ofN 0) (by omega) (by unfold FUEL; omega)]
    simp (disch := first | omega | assumption) only [h6, up1_eq, ups_ne, bgI, bgL, bpI, bpZ0, bpZ1, bpL, bcT, bR0, bN0, bA0, bS0, bR1, bN1, bA1, bS1, bR2, bN2, bA2, bS2, bR3, bN3, bA3, bS3, bR4, bN4, bA4, bS4, Option.bind_some, ofN_add, ofN_mul, ofN_sub, ofN_lt, ofN_le, ofN_inj, ofN_dec, ofN_lt_neg, neg_lt_ofN, ofN_le_neg, neg_le_ofN, ofN_eq_neg, neg_eq_ofN, ofN_irm, ofN_div, l0, l1, l2, l3, l4, l5, l6, l7, l8, l9, l10, l11, l12, l13, l14, l15, l16, l17, l18, l19, l20, l21, l22, l23, l24, l25, l26, l27, l28, l29, l30, l31, l32, l33, l34, l35, l36, l37, l38, l39, l40, l41, l42, l43, l44, l45, l46, l47, l48, l49, l50, l51, l52, l53, l54, l55, l56, l57, l58, l59, l60, l61, l62, l63, l64, l65, l66, l67, l68, l69, l70, l71, l72, l73, l74, l75, l76, l77, l78, l79, l80, l81, l82, l83, l84, l85, l86, l87, l88, l89, l90, l91, l92, l93, l94, l95, l96, l97, l98, l99, l100, l101, l102, l103, l104, l105, l106, l107, l108, l109, l110, l111, l112, l113, l114, l115, l116, l117, l118, l119, l120, l121, l122, l123, l124, l125, l126, l127, l128, l129, l130, l131, l196, l200, l245, l255, l368, l369, l370, l382, l383, l384, l385, l386, l387, l388, l394, l395, l400, l401, l617, l738, l800, l999, l1000, l1500, l1600, l2400, l3195, l5920, l5995, l11990, l99999, l1000000, l100000000, l1000000000, l2000000000, l2147483647]
    unfold thinB
    rw [e1, nat32_ofN (by omega)]
    generalize hlim : maxF (firstB B 50 key) s (n + 1) (0 + 1) (ofN 0) = lim
    obtain ⟨R', e5, h5⟩ := X_thinF (L := L) h (s := s) (lim := lim) (n + 1) FUEL (n + 1) (up1 I b (ups (I b) 8 lim)) (ups (firstB B 50 key) 58 lim) (by rw [up1_eq, ups_ne (by omega)]; exact h6) (by rw [up1_eq, ups_eq]) (by rw [ups_ne (by omega)]; exact e1) (by omega) (fun i hi => by rw [up1_ne (by omega), ups_ne (by omega)]; exact hS i hi) (Nat.le_refl _) (by unfold FUEL; omega)
    refine ⟨lim, R', ?_, ?_, h5⟩
    · rw [e5, up1_eq, up1_up1]
    · rw [thinF_out (by omega) (n + 1) (n + 1) _ (by rw [ups_ne (by omega)]; exact e1) (by omega) (Nat.le_refl _), ups_eq]
theorem row_out {R : Nat → Int32} {key : Int32} {ns p : Nat} (s0 : B 50 = ofN ns) (s1 : ns ≤ 6) (hz : 0 < p) (hp : p ≤ ns) (xm : ∀ i, i < ns → R i = B (51 + i)) (i : Nat) (hi : i < ns) : ups (va_cpy R R 0 1 (p - 1)) 0 key i = firstB (outB B 50 p) 50 key (51 + i) := by
  have o0 : outB B 50 p 50 = ofN (ns - 1) := outB_n s0 (by omega)
  simp only [firstB_at o0 (show ns - 1 < 1000 by omega), outB_at s0 (show ns < 1000 by omega)]
  unfold ups va_cpy
  grind
theorem row_in {R : Nat → Int32} {key : Int32} {ns : Nat} (s0 : B 50 = ofN ns) (s1 : ns ≤ 6) (xm : ∀ i, i < ns → R i = B (51 + i)) (i : Nat) (hi : i < ns + 1) : ups (va_cpy R R 0 1 ns) 0 key i = firstB B 50 key (51 + i) := by
  simp only [firstB_at s0 (show ns < 1000 by omega)]
  unfold ups va_cpy
  grind
theorem X_sampleIt (h : BkSh b σ) {n ns nr l : Nat} {key z c s : Int32} (hr : BkRel I L b B Q) (hB : BD B n ns nr l) :
    ∃ I' L', X3_sampleIt (some b) key z c s (hw σ I L) = some (hw σ I' L') ∧ FrI b (b + 6) I I' ∧ FrL b (b + 6) L L' ∧ BkRel I' L' b (sampB B key s) (sampQ Q B key c) := by
  have hpl := X_placeSampled (key := key) h hr hB.1.2.1.1 (by have := hB.1.2.1.2; omega) hB.2.2
  obtain ⟨⟨⟨n0, n1⟩, ⟨s0, s1⟩, ⟨r0, r1⟩, lm0, lm1, lm2⟩, d1, d2⟩ := hB
  have hp := plcB_le (key := key) s0 (by omega)
  obtain ⟨x5, x6, x7, x8, xs, xc, xm, xr, xp, xq⟩ := hr
  have x8' : I b 8 = ofN l := x8.trans lm0
  have x6' : I b 6 = ofN ns := x6.trans s0
  rw [s0, nat32_ofN (by omega)] at xm
  have fin : ∀ (B1 : Nat → Int32) (m1 : Nat) (I1 : IM) (L1 : LM) (v8 : Int32) (R' : Nat → Int32), sampB B key s = sampT B1 key s → B1 50 = ofN m1 → m1 ≤ 6 → (∀ j, j < 50 ∨ 59 ≤ j → B1 j = B j) → (∀ a, a ≠ b → a ≠ b + 3 → I1 a = I a) → (∀ k, k ≠ 6 → I1 b k = I b k) → v8 = sampT B1 key s 58 → (∀ i, i < nat32 (sampT B1 key s 50) → R' i = sampT B1 key s (51 + i)) →
      (∀ i, 1 ≤ i → i ≤ 24 → L1 (b + 5) i = sampQ Q B key c i) → L1 (b + 5) 25 = sampQ Q B key c 0 → FrL b (b + 6) L L1 → FrI b (b + 6) I (up1 (up1 I1 b (ups (ups (I1 b) 8 v8) 6 (sampT B1 key s 50))) (b + 3) R') ∧ FrL b (b + 6) L L1 ∧ BkRel (up1 (up1 I1 b (ups (ups (I1 b) 8 v8) 6 (sampT B1 key s 50))) (b + 3) R') L1 b (sampB B key s) (sampQ Q B key c) := by
    intro B1 m1 I1 L1 v8 R' hs1 hm hm6 hB1 hI1 hI1b hv8 hR hL hL0 hF
    have g : ∀ j, j < 50 ∨ 59 ≤ j → sampT B1 key s j = B j := fun j hj => (sampT_at hm hm6 hj).trans (hB1 j hj)
    rw [hs1]
    refine ⟨fun a ha => ?_, hF, ?_, ?_, ?_, ?_, ?_, ?_, ?_, ?_, hL, hL0⟩
    · rw [up1_ne (by omega), up1_ne (by omega)]; exact hI1 a (by omega) (by omega)
    · rw [up1_ne (by omega), up1_eq, ups_ne (by omega), ups_ne (by omega), hI1b 5 (by omega), g 0 (by omega)]; exact x5
    · rw [up1_ne (by omega), up1_eq, ups_eq]
    · rw [up1_ne (by omega), up1_eq, ups_ne (by omega), ups_ne (by omega), hI1b 7 (by omega), g 59 (by omega)]; exact x7
    · rw [up1_ne (by omega), up1_eq, ups_ne (by omega), ups_eq]; exact hv8
    · intro i hi
      rw [g 0 (by omega)] at hi
      have hi2 : i < n := by rw [n0, nat32_ofN (by omega)] at hi; exact hi
      rw [up1_ne (by omega), up1_ne (by omega), hI1 (b + 1) (by omega) (by omega), g (1 + i) (by omega)]; exact xs i hi
    · intro i hi
      rw [up1_ne (by omega), up1_ne (by omega), hI1 (b + 2) (by omega) (by omega), g (25 + i) (by omega)]; exact xc i hi
    · intro i hi
      rw [up1_eq]; exact hR i hi
    · intro i hi
      rw [g 59 (by omega)] at hi
      rw [up1_ne (by omega), up1_ne (by omega), hI1 (b + 4) (by omega) (by omega), g (60 + i) (by omega)]; exact xr i hi
  have hQ : ∀ x, x < 26 → 1 ≤ x → (x = 25 → farN B key = 0) → (x ≠ 25 → farN B key = x) → (∀ i, 1 ≤ i → i ≤ 24 → up1 L (b + 5) (ups (L (b + 5)) x (L (b + 5) x + 1000000 * c.toInt64 / (ofN l).toInt64)) (b + 5) i = sampQ Q B key c i) ∧ up1 L (b + 5) (ups (L (b + 5)) x (L (b + 5) x + 1000000 * c.toInt64 / (ofN l).toInt64)) (b + 5) 25 = sampQ Q B key c 0 := by
    intro x hx h1 h25 hn25
    unfold sampQ ups
    rw [up1_eq, lm0]
    by_cases e : x = 25
    · subst e
      rw [h25 rfl]
      refine ⟨fun i i1 i2 => ?_, ?_⟩
      · rw [if_neg (by omega), if_neg (by omega)]; exact xp i i1 i2
      · rw [if_pos rfl, if_pos rfl, xq]
    · rw [hn25 e]
      refine ⟨fun i i1 i2 => ?_, ?_⟩
      · by_cases ei : i = x
        · subst ei
          rw [if_pos rfl, if_pos rfl, xp i i1 i2]
        · rw [if_neg ei, if_neg ei]; exact xp i i1 i2
      · rw [if_neg (by omega), if_neg (by omega)]; exact xq
  have hF : ∀ (x : Nat) (w : Int64), FrL b (b + 6) L (up1 L (b + 5) (ups (L (b + 5)) x w)) := fun x w a ha => up1_ne (by omega)
  have hd : plcB B 50 key * 1000 / l ≤ 6000 := Nat.le_trans (Nat.div_le_self _ _) (by omega)
  have main : ∀ x, x < 26 → 1 ≤ x → (x = 25 → farN B key = 0) → (x ≠ 25 → farN B key = x) → ∃ I' L', X3_sampleIt_c43 (some b) key c s (ofN (plcB B 50 key)) (some (b + 5)) (ofN x) (hw σ I L) = some (hw σ I' L') ∧ FrI b (b + 6) I I' ∧ FrL b (b + 6) L L' ∧ BkRel I' L' b (sampB B key s) (sampQ Q B key c) := by
    intro x hx h1 h25 hn25
    obtain ⟨q1, q2⟩ := hQ x hx h1 h25 hn25
    rcases Nat.lt_or_ge 0 (plcB B 50 key) with hz | hz
    · simp (disch := first | omega | assumption) only [X3_sampleIt_c43, X3_first, X3_first_c11, x8', x6', nar_int, bC2 h h, up1_eq, up1_ne, bgI, bgL, bpI, bpZ0, bpZ1, bpL, bcT, bR0, bN0, bA0, bS0, bR1, bN1, bA1, bS1, bR2, bN2, bA2, bS2, bR3, bN3, bA3, bS3, bR4, bN4, bA4, bS4, Option.bind_some, ofN_add, ofN_mul, ofN_sub, ofN_lt, ofN_le, ofN_inj, ofN_dec, ofN_lt_neg, neg_lt_ofN, ofN_le_neg, neg_le_ofN, ofN_eq_neg, neg_eq_ofN, ofN_irm, ofN_div, l0, l1, l2, l3, l4, l5, l6, l7, l8, l9, l10, l11, l12, l13, l14, l15, l16, l17, l18, l19, l20, l21, l22, l23, l24, l25, l26, l27, l28, l29, l30, l31, l32, l33, l34, l35, l36, l37, l38, l39, l40, l41, l42, l43, l44, l45, l46, l47, l48, l49, l50, l51, l52, l53, l54, l55, l56, l57, l58, l59, l60, l61, l62, l63, l64, l65, l66, l67, l68, l69, l70, l71, l72, l73, l74, l75, l76, l77, l78, l79, l80, l81, l82, l83, l84, l85, l86, l87, l88, l89, l90, l91, l92, l93, l94, l95, l96, l97, l98, l99, l100, l101, l102, l103, l104, l105, l106, l107, l108, l109, l110, l111, l112, l113, l114, l115, l116, l117, l118, l119, l120, l121, l122, l123, l124, l125, l126, l127, l128, l129, l130, l131, l196, l200, l245, l255, l368, l369, l370, l382, l383, l384, l385, l386, l387, l388, l394, l395, l400, l401, l617, l738, l800, l999, l1000, l1500, l1600, l2400, l3195, l5920, l5995, l11990, l99999, l1000000, l100000000, l1000000000, l2000000000, l2147483647]
      rw [if_neg (toL_ne lm1 (by omega)), if_neg (by omega), Option.bind_some, if_neg (by omega)]
      have o0 : outB B 50 (plcB B 50 key) 50 = ofN (ns - 1) := outB_n s0 (by omega)
      obtain ⟨v8, R', e5, h5, h6⟩ := X_c88 (I := up1 (up1 I (b + 3) (va_cpy (I (b + 3)) (I (b + 3)) 0 1 (plcB B 50 key - 1))) (b + 3) (ups (va_cpy (I (b + 3)) (I (b + 3)) 0 1 (plcB B 50 key - 1)) 0 key)) (L := up1 L (b + 5) (ups (L (b + 5)) x (L (b + 5) x + 1000000 * c.toInt64 / (ofN l).toInt64))) (B := outB B 50 (plcB B 50 key)) h (n := ns - 1) (s := s) (key := key)
        (by rw [up1_ne (by omega), up1_ne (by omega), x6']; congr 1; omega) o0 (by omega) (by rw [up1_ne (by omega), up1_ne (by omega), outB_ne s0 (by omega) (by omega) (by omega)]; exact x8)
        (fun i hi => by rw [up1_eq]; exact row_out s0 s1 hz hp xm i (by omega))
      refine ⟨_, _, e5, fin _ (ns - 1) _ _ v8 R' ?_ o0 (by omega) (fun j hj => outB_ne s0 (by omega) (by omega) (by omega)) (fun a h1 h2 => by rw [up1_ne (by omega), up1_ne (by omega)]) (fun k hk => by rw [up1_ne (by omega), up1_ne (by omega)]) h5 h6 q1 q2 (hF _ _)⟩
      unfold sampB
      rw [if_pos hz]
    · have hz0 : plcB B 50 key = 0 := by omega
      simp (disch := first | omega | assumption) only [X3_sampleIt_c43, X3_first, X3_first_c11, x8', x6', nar_int, bC2 h h, up1_eq, up1_ne, bgI, bgL, bpI, bpZ0, bpZ1, bpL, bcT, bR0, bN0, bA0, bS0, bR1, bN1, bA1, bS1, bR2, bN2, bA2, bS2, bR3, bN3, bA3, bS3, bR4, bN4, bA4, bS4, Option.bind_some, ofN_add, ofN_mul, ofN_sub, ofN_lt, ofN_le, ofN_inj, ofN_dec, ofN_lt_neg, neg_lt_ofN, ofN_le_neg, neg_le_ofN, ofN_eq_neg, neg_eq_ofN, ofN_irm, ofN_div, l0, l1, l2, l3, l4, l5, l6, l7, l8, l9, l10, l11, l12, l13, l14, l15, l16, l17, l18, l19, l20, l21, l22, l23, l24, l25, l26, l27, l28, l29, l30, l31, l32, l33, l34, l35, l36, l37, l38, l39, l40, l41, l42, l43, l44, l45, l46, l47, l48, l49, l50, l51, l52, l53, l54, l55, l56, l57, l58, l59, l60, l61, l62, l63, l64, l65, l66, l67, l68, l69, l70, l71, l72, l73, l74, l75, l76, l77, l78, l79, l80, l81, l82, l83, l84, l85, l86, l87, l88, l89, l90, l91, l92, l93, l94, l95, l96, l97, l98, l99, l100, l101, l102, l103, l104, l105, l106, l107, l108, l109, l110, l111, l112, l113, l114, l115, l116, l117, l118, l119, l120, l121, l122, l123, l124, l125, l126, l127, l128, l129, l130, l131, l196, l200, l245, l255, l368, l369, l370, l382, l383, l384, l385, l386, l387, l388, l394, l395, l400, l401, l617, l738, l800, l999, l1000, l1500, l1600, l2400, l3195, l5920, l5995, l11990, l99999, l1000000, l100000000, l1000000000, l2000000000, l2147483647]
      rw [if_neg (toL_ne lm1 (by omega)), if_pos (by omega), Option.bind_some, if_pos (by omega)]
      simp (disch := first | omega | assumption) only [x6', up1_eq, up1_ne, bgI, bgL, bpI, bpZ0, bpZ1, bpL, bcT, bR0, bN0, bA0, bS0, bR1, bN1, bA1, bS1, bR2, bN2, bA2, bS2, bR3, bN3, bA3, bS3, bR4, bN4, bA4, bS4, Option.bind_some, ofN_add, ofN_mul, ofN_sub, ofN_lt, ofN_le, ofN_inj, ofN_dec, ofN_lt_neg, neg_lt_ofN, ofN_le_neg, neg_le_ofN, ofN_eq_neg, neg_eq_ofN, ofN_irm, ofN_div, l0, l1, l2, l3, l4, l5, l6, l7, l8, l9, l10, l11, l12, l13, l14, l15, l16, l17, l18, l19, l20, l21, l22, l23, l24, l25, l26, l27, l28, l29, l30, l31, l32, l33, l34, l35, l36, l37, l38, l39, l40, l41, l42, l43, l44, l45, l46, l47, l48, l49, l50, l51, l52, l53, l54, l55, l56, l57, l58, l59, l60, l61, l62, l63, l64, l65, l66, l67, l68, l69, l70, l71, l72, l73, l74, l75, l76, l77, l78, l79, l80, l81, l82, l83, l84, l85, l86, l87, l88, l89, l90, l91, l92, l93, l94, l95, l96, l97, l98, l99, l100, l101, l102, l103, l104, l105, l106, l107, l108, l109, l110, l111, l112, l113, l114, l115, l116, l117, l118, l119, l120, l121, l122, l123, l124, l125, l126, l127, l128, l129, l130, l131, l196, l200, l245, l255, l368, l369, l370, l382, l383, l384, l385, l386, l387, l388, l394, l395, l400, l401, l617, l738, l800, l999, l1000, l1500, l1600, l2400, l3195, l5920, l5995, l11990, l99999, l1000000, l100000000, l1000000000, l2000000000, l2147483647]
      obtain ⟨v8, R', e5, h5, h6⟩ := X_c88 (I := up1 (up1 (up1 I (b + 3) (va_cpy (I (b + 3)) (I (b + 3)) 0 1 ns)) (b + 3) (ups (va_cpy (I (b + 3)) (I (b + 3)) 0 1 ns) 0 key)) b (ups (I b) 6 (ofN (ns + 1)))) (L := up1 L (b + 5) (ups (L (b + 5)) x (L (b + 5) x + 1000000 * c.toInt64 / (ofN l).toInt64))) (B := B) h (n := ns) (s := s) (key := key)
        (by rw [up1_eq, ups_eq]) s0 s1 (by rw [up1_eq, ups_ne (by omega)]; exact x8)
        (fun i hi => by rw [up1_ne (by omega), up1_eq]; exact row_in s0 s1 xm i hi)
      refine ⟨_, _, e5, fin _ ns _ _ v8 R' ?_ s0 s1 (fun j hj => rfl) (fun a h1 h2 => by rw [up1_ne (by omega), up1_ne (by omega), up1_ne (by omega)]) (fun k hk => by rw [up1_eq, ups_ne hk]) h5 h6 q1 q2 (hF _ _)⟩
      unfold sampB
      rw [if_neg (by omega)]
  simp (disch := first | omega | assumption) only [X3_sampleIt, hpl, x8', bgI, bgL, bpI, bpZ0, bpZ1, bpL, bcT, bR0, bN0, bA0, bS0, bR1, bN1, bA1, bS1, bR2, bN2, bA2, bS2, bR3, bN3, bA3, bS3, bR4, bN4, bA4, bS4, Option.bind_some, ofN_add, ofN_mul, ofN_sub, ofN_lt, ofN_le, ofN_inj, ofN_dec, ofN_lt_neg, neg_lt_ofN, ofN_le_neg, neg_le_ofN, ofN_eq_neg, neg_eq_ofN, ofN_irm, ofN_div, l0, l1, l2, l3, l4, l5, l6, l7, l8, l9, l10, l11, l12, l13, l14, l15, l16, l17, l18, l19, l20, l21, l22, l23, l24, l25, l26, l27, l28, l29, l30, l31, l32, l33, l34, l35, l36, l37, l38, l39, l40, l41, l42, l43, l44, l45, l46, l47, l48, l49, l50, l51, l52, l53, l54, l55, l56, l57, l58, l59, l60, l61, l62, l63, l64, l65, l66, l67, l68, l69, l70, l71, l72, l73, l74, l75, l76, l77, l78, l79, l80, l81, l82, l83, l84, l85, l86, l87, l88, l89, l90, l91, l92, l93, l94, l95, l96, l97, l98, l99, l100, l101, l102, l103, l104, l105, l106, l107, l108, l109, l110, l111, l112, l113, l114, l115, l116, l117, l118, l119, l120, l121, l122, l123, l124, l125, l126, l127, l128, l129, l130, l131, l196, l200, l245, l255, l368, l369, l370, l382, l383, l384, l385, l386, l387, l388, l394, l395, l400, l401, l617, l738, l800, l999, l1000, l1500, l1600, l2400, l3195, l5920, l5995, l11990, l99999, l1000000, l100000000, l1000000000, l2000000000, l2147483647]
  rw [if_neg (by omega)]
  rcases Nat.lt_or_ge 0 (plcB B 50 key) with hz | hz
  · have hfar : 1 ≤ plcB B 50 key * 1000 / l := (Nat.le_div_iff_mul_le (by omega)).mpr (by omega)
    rw [if_neg (by omega)]
    by_cases h24 : plcB B 50 key * 1000 / l ≤ 24
    · rw [if_pos h24]
      refine main _ (by omega) hfar (fun e => by omega) (fun _ => ?_)
      unfold farN
      rw [lm0, nat32_ofN (by omega), if_pos h24]
    · rw [if_neg h24]
      refine main 25 (by omega) (by omega) (fun _ => ?_) (fun e => absurd rfl e)
      unfold farN
      rw [lm0, nat32_ofN (by omega), if_neg h24]
  · rw [if_pos (by omega)]
    refine main 25 (by omega) (by omega) (fun _ => ?_) (fun e => absurd rfl e)
    unfold farN
    rw [show plcB B 50 key = 0 by omega]
    simp
end XSAMPLE
