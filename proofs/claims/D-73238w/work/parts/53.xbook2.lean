set_option maxRecDepth 100000
/-! A BOOK: drops, halves, misses, counts -/
theorem plcF_congr {B B' : Nat → Int32} {row : Nat} {key : Int32} : ∀ (r k : Nat), (∀ j, k ≤ j → j < k + r → B (row + j) = B' (row + j)) → plcF B row key r k = plcF B' row key r k
  | 0, _, _ => rfl
  | r + 1, k, h => by
    unfold plcF
    rw [h k (Nat.le_refl _) (by omega), plcF_congr r (k + 1) (fun j h1 h2 => h j (by omega) (by omega))]
theorem plc_out {B : Nat → Int32} {n ns p : Nat} {key : Int32} (n0 : B 0 = ofN n) (n1 : n ≤ 24) (s0 : B 50 = ofN ns) (s1 : ns ≤ 7) : plcB (outB B 0 p) 50 key = plcB B 50 key := by
  unfold plcB
  rw [outB_ne n0 (by omega) (by omega) (by omega), s0, nat32_ofN (by omega)]
  exact plcF_congr ns 1 (fun j h1 h2 => outB_ne n0 (by omega) (by omega) (by omega))
def misF (B : Nat → Int32) : Nat → Nat → Int32 → Int32
  | 0, _, x => x
  | r + 1, k, x => misF B r (k + 1) (x + B (25 + k))
/-- misses of a size -/
def misB (B : Nat → Int32) (c : Nat) : Int32 := misF B (24 - c) (c + 1) (B 25)
theorem misF_add {B : Nat → Int32} : ∀ (r k : Nat) (x y : Int32), misF B r k (x + y) = misF B r k x + y
  | 0, _, _, _ => rfl
  | r + 1, k, x, y => by
    unfold misF
    rw [← misF_add r (k + 1) (x + B (25 + k)) y]
    congr 1
    rw [Int32.add_assoc, Int32.add_assoc, Int32.add_comm y]
theorem misB_step {B : Nat → Int32} {c : Nat} (h : c < 24) : misB B c = misB B (c + 1) + B (25 + (c + 1)) := by
  unfold misB
  rw [show 24 - c = (24 - (c + 1)) + 1 by omega]
  show misF B (24 - (c + 1)) (c + 1 + 1) (B 25 + B (25 + (c + 1))) = _
  exact misF_add _ _ _ _
def cntF (B : Nat → Int32) (key : Int32) : Nat → Nat → Nat → Nat
  | 0, _, x => x
  | r + 1, k, x => cntF B key r (k + 1) (if B (59 + k) = key then x + 1 else x)
/-- how often a key stands in the record -/
def cntB (B : Nat → Int32) (key : Int32) : Nat := cntF B key (nat32 (B 59)) 1 0
theorem cntF_le {B : Nat → Int32} {key : Int32} : ∀ (r k x : Nat), cntF B key r k x ≤ x + r
  | 0, _, _ => Nat.le_refl _
  | r + 1, k, x => by
    unfold cntF
    split
    · have := cntF_le (B := B) (key := key) r (k + 1) (x + 1)
      omega
    · have := cntF_le (B := B) (key := key) r (k + 1) x
      omega
section XB2
variable {σ : Hp} {I : IM} {L : LM} {b : Nat} {B : Nat → Int32} {Q : Nat → Int64}
theorem X_misF (h : BkSh b σ) (hc : ∀ i, i < 25 → I (b + 2) i = B (25 + i)) : ∀ (r fuel k : Nat) (x : Int32), 25 = k + r → r < fuel →
    X3_misses_c11 (some b) fuel x (ofN k) (hw σ I L) = some (misF B r k x, hw σ I L) := by
  intro r
  induction r with
  | zero =>
    intro fuel k x hk hf
    obtain ⟨f, rfl⟩ : ∃ f, fuel = f + 1 := ⟨fuel - 1, by omega⟩
    simp (disch := first | omega | assumption) only [X3_misses_c11, misF, Option.bind_some, ofN_add, ofN_mul, ofN_sub, ofN_lt, ofN_le, ofN_inj, ofN_dec, ofN_lt_neg, neg_lt_ofN, ofN_le_neg, neg_le_ofN, ofN_eq_neg, neg_eq_ofN, ofN_irm, ofN_div, l0, l1, l2, l3, l4, l5, l6, l7, l8, l9, l10, l11, l12, l13, l14, l15, l16, l17, l18, l19, l20, l21, l22, l23, l24, l25, l26, l27, l28, l29, l30, l31, l32, l33, l34, l35, l36, l37, l38, l39, l40, l41, l42, l43, l44, l45, l46, l47, l48, l49, l50, l51, l52, l53, l54, l55, l56, l57, l58, l59, l60, l61, l62, l63, l64, l65, l66, l67, l68, l69, l70, l71, l72, l73, l74, l75, l76, l77, l78, l79, l80, l81, l82, l83, l84, l85, l86, l87, l88, l89, l90, l91, l92, l93, l94, l95, l96, l97, l98, l99, l100, l101, l102, l103, l104, l105, l106, l107, l108, l109, l110, l111, l112, l113, l114, l115, l116, l117, l118, l119, l120, l121, l122, l123, l124, l125, l126, l127, l128, l129, l130, l131, l196, l200, l245, l255, l368, l369, l370, l382, l383, l384, l385, l386, l387, l388, l394, l395, l400, l401, l617, l738, l800, l999, l1000, l1500, l1600, l2400, l3195, l5920, l5995, l11990, l99999, l1000000, l100000000, l1000000000, l2000000000, l2147483647]
    rw [if_pos (by omega)]
  | succ r ih =>
    intro fuel k x hk hf
    obtain ⟨f, rfl⟩ : ∃ f, fuel = f + 1 := ⟨fuel - 1, by omega⟩
    simp (disch := first | omega | assumption) only [X3_misses_c11, misF, hc, bgI, bgL, bpI, bpZ0, bpZ1, bpL, bcT, bR0, bN0, bA0, bS0, bR1, bN1, bA1, bS1, bR2, bN2, bA2, bS2, bR3, bN3, bA3, bS3, bR4, bN4, bA4, bS4, Option.bind_some, ofN_add, ofN_mul, ofN_sub, ofN_lt, ofN_le, ofN_inj, ofN_dec, ofN_lt_neg, neg_lt_ofN, ofN_le_neg, neg_le_ofN, ofN_eq_neg, neg_eq_ofN, ofN_irm, ofN_div, l0, l1, l2, l3, l4, l5, l6, l7, l8, l9, l10, l11, l12, l13, l14, l15, l16, l17, l18, l19, l20, l21, l22, l23, l24, l25, l26, l27, l28, l29, l30, l31, l32, l33, l34, l35, l36, l37, l38, l39, l40, l41, l42, l43, l44, l45, l46, l47, l48, l49, l50, l51, l52, l53, l54, l55, l56, l57, l58, l59, l60, l61, l62, l63, l64, l65, l66, l67, l68, l69, l70, l71, l72, l73, l74, l75, l76, l77, l78, l79, l80, l81, l82, l83, l84, l85, l86, l87, l88, l89, l90, l91, l92, l93, l94, l95, l96, l97, l98, l99, l100, l101, l102, l103, l104, l105, l106, l107, l108, l109, l110, l111, l112, l113, l114, l115, l116, l117, l118, l119, l120, l121, l122, l123, l124, l125, l126, l127, l128, l129, l130, l131, l196, l200, l245, l255, l368, l369, l370, l382, l383, l384, l385, l386, l387, l388, l394, l395, l400, l401, l617, l738, l800, l999, l1000, l1500, l1600, l2400, l3195, l5920, l5995, l11990, l99999, l1000000, l100000000, l1000000000, l2000000000, l2147483647]
    rw [if_neg (by omega)]
    exact ih f (k + 1) _ (by omega) (by omega)
theorem X_misses (h : BkSh b σ) (hr : BkRel I L b B Q) {c : Nat} (hc : c ≤ 24) : X3_misses (some b) (ofN c) (hw σ I L) = some (misB B c, hw σ I L) := by
  have xc := hr.2.2.2.2.2.1
  have x0 : I (b + 2) 0 = B 25 := xc 0 (by omega)
  simp (disch := first | omega | assumption) only [X3_misses, x0, bgI, bgL, bpI, bpZ0, bpZ1, bpL, bcT, bR0, bN0, bA0, bS0, bR1, bN1, bA1, bS1, bR2, bN2, bA2, bS2, bR3, bN3, bA3, bS3, bR4, bN4, bA4, bS4, Option.bind_some, ofN_add, ofN_mul, ofN_sub, ofN_lt, ofN_le, ofN_inj, ofN_dec, ofN_lt_neg, neg_lt_ofN, ofN_le_neg, neg_le_ofN, ofN_eq_neg, neg_eq_ofN, ofN_irm, ofN_div, l0, l1, l2, l3, l4, l5, l6, l7, l8, l9, l10, l11, l12, l13, l14, l15, l16, l17, l18, l19, l20, l21, l22, l23, l24, l25, l26, l27, l28, l29, l30, l31, l32, l33, l34, l35, l36, l37, l38, l39, l40, l41, l42, l43, l44, l45, l46, l47, l48, l49, l50, l51, l52, l53, l54, l55, l56, l57, l58, l59, l60, l61, l62, l63, l64, l65, l66, l67, l68, l69, l70, l71, l72, l73, l74, l75, l76, l77, l78, l79, l80, l81, l82, l83, l84, l85, l86, l87, l88, l89, l90, l91, l92, l93, l94, l95, l96, l97, l98, l99, l100, l101, l102, l103, l104, l105, l106, l107, l108, l109, l110, l111, l112, l113, l114, l115, l116, l117, l118, l119, l120, l121, l122, l123, l124, l125, l126, l127, l128, l129, l130, l131, l196, l200, l245, l255, l368, l369, l370, l382, l383, l384, l385, l386, l387, l388, l394, l395, l400, l401, l617, l738, l800, l999, l1000, l1500, l1600, l2400, l3195, l5920, l5995, l11990, l99999, l1000000, l100000000, l1000000000, l2000000000, l2147483647]
  rw [X_misF h xc (24 - c) FUEL (c + 1) _ (by omega) (by unfold FUEL; omega)]
  rfl
theorem X_cntF (h : BkSh b σ) {n : Nat} {key : Int32} (h7 : I b 7 = ofN n) (hn : n ≤ 32) (hc : ∀ i, i < n → I (b + 4) i = B (60 + i)) : ∀ (r fuel k x : Nat), n = k + r → x ≤ k → r < fuel →
    X3_often_c4 (some b) key fuel (ofN x) (ofN k) (hw σ I L) = some (ofN (cntF B key r (k + 1) x), hw σ I L) := by
  intro r
  induction r with
  | zero =>
    intro fuel k x hk hx hf
    obtain ⟨f, rfl⟩ : ∃ f, fuel = f + 1 := ⟨fuel - 1, by omega⟩
    simp (disch := first | omega | assumption) only [X3_often_c4, cntF, h7, bgI, bgL, bpI, bpZ0, bpZ1, bpL, bcT, bR0, bN0, bA0, bS0, bR1, bN1, bA1, bS1, bR2, bN2, bA2, bS2, bR3, bN3, bA3, bS3, bR4, bN4, bA4, bS4, Option.bind_some, ofN_add, ofN_mul, ofN_sub, ofN_lt, ofN_le, ofN_inj, ofN_dec, ofN_lt_neg, neg_lt_ofN, ofN_le_neg, neg_le_ofN, ofN_eq_neg, neg_eq_ofN, ofN_irm, ofN_div, l0, l1, l2, l3, l4, l5, l6, l7, l8, l9, l10, l11, l12, l13, l14, l15, l16, l17, l18, l19, l20, l21, l22, l23, l24, l25, l26, l27, l28, l29, l30, l31, l32, l33, l34, l35, l36, l37, l38, l39, l40, l41, l42, l43, l44, l45, l46, l47, l48, l49, l50, l51, l52, l53, l54, l55, l56, l57, l58, l59, l60, l61, l62, l63, l64, l65, l66, l67, l68, l69, l70, l71, l72, l73, l74, l75, l76, l77, l78, l79, l80, l81, l82, l83, l84, l85, l86, l87, l88, l89, l90, l91, l92, l93, l94, l95, l96, l97, l98, l99, l100, l101, l102, l103, l104, l105, l106, l107, l108, l109, l110, l111, l112, l113, l114, l115, l116, l117, l118, l119, l120, l121, l122, l123, l124, l125, l126, l127, l128, l129, l130, l131, l196, l200, l245, l255, l368, l369, l370, l382, l383, l384, l385, l386, l387, l388, l394, l395, l400, l401, l617, l738, l800, l999, l1000, l1500, l1600, l2400, l3195, l5920, l5995, l11990, l99999, l1000000, l100000000, l1000000000, l2000000000, l2147483647]
    rw [if_pos (by omega)]
  | succ r ih =>
    intro fuel k x hk hx hf
    obtain ⟨f, rfl⟩ : ∃ f, fuel = f + 1 := ⟨fuel - 1, by omega⟩
    simp (disch := first | omega | assumption) only [X3_often_c4, cntF, h7, hc, bgI, bgL, bpI, bpZ0, bpZ1, bpL, bcT, bR0, bN0, bA0, bS0, bR1, bN1, bA1, bS1, bR2, bN2, bA2, bS2, bR3, bN3, bA3, bS3, bR4, bN4, bA4, bS4, Option.bind_some, ofN_add, ofN_mul, ofN_sub, ofN_lt, ofN_le, ofN_inj, ofN_dec, ofN_lt_neg, neg_lt_ofN, ofN_le_neg, neg_le_ofN, ofN_eq_neg, neg_eq_ofN, ofN_irm, ofN_div, l0, l1, l2, l3, l4, l5, l6, l7, l8, l9, l10, l11, l12, l13, l14, l15, l16, l17, l18, l19, l20, l21, l22, l23, l24, l25, l26, l27, l28, l29, l30, l31, l32, l33, l34, l35, l36, l37, l38, l39, l40, l41, l42, l43, l44, l45, l46, l47, l48, l49, l50, l51, l52, l53, l54, l55, l56, l57, l58, l59, l60, l61, l62, l63, l64, l65, l66, l67, l68, l69, l70, l71, l72, l73, l74, l75, l76, l77, l78, l79, l80, l81, l82, l83, l84, l85, l86, l87, l88, l89, l90, l91, l92, l93, l94, l95, l96, l97, l98, l99, l100, l101, l102, l103, l104, l105, l106, l107, l108, l109, l110, l111, l112, l113, l114, l115, l116, l117, l118, l119, l120, l121, l122, l123, l124, l125, l126, l127, l128, l129, l130, l131, l196, l200, l245, l255, l368, l369, l370, l382, l383, l384, l385, l386, l387, l388, l394, l395, l400, l401, l617, l738, l800, l999, l1000, l1500, l1600, l2400, l3195, l5920, l5995, l11990, l99999, l1000000, l100000000, l1000000000, l2000000000, l2147483647]
    rw [if_neg (by omega), show 59 + (k + 1) = 60 + k by omega]
    by_cases hq : B (60 + k) = key
    · rw [if_pos hq, if_pos hq]
      exact ih f (k + 1) (x + 1) (by omega) (by omega) (by omega)
    · rw [if_neg hq, if_neg hq, Nat.add_zero]
      exact ih f (k + 1) x (by omega) (by omega) (by omega)
theorem X_often (h : BkSh b σ) {n : Nat} {key : Int32} (hr : BkRel I L b B Q) (hn : B 59 = ofN n) (hb : n ≤ 32) : X3_often (some b) key (hw σ I L) = some (ofN (cntB B key), hw σ I L) := by
  have h7 : I b 7 = ofN n := hr.2.2.1.trans hn
  have xr := hr.2.2.2.2.2.2.2.1
  rw [hn, nat32_ofN (by omega)] at xr
  simp (disch := first | omega | assumption) only [X3_often, Option.bind_some, ofN_add, ofN_mul, ofN_sub, ofN_lt, ofN_le, ofN_inj, ofN_dec, ofN_lt_neg, neg_lt_ofN, ofN_le_neg, neg_le_ofN, ofN_eq_neg, neg_eq_ofN, ofN_irm, ofN_div, l0, l1, l2, l3, l4, l5, l6, l7, l8, l9, l10, l11, l12, l13, l14, l15, l16, l17, l18, l19, l20, l21, l22, l23, l24, l25, l26, l27, l28, l29, l30, l31, l32, l33, l34, l35, l36, l37, l38, l39, l40, l41, l42, l43, l44, l45, l46, l47, l48, l49, l50, l51, l52, l53, l54, l55, l56, l57, l58, l59, l60, l61, l62, l63, l64, l65, l66, l67, l68, l69, l70, l71, l72, l73, l74, l75, l76, l77, l78, l79, l80, l81, l82, l83, l84, l85, l86, l87, l88, l89, l90, l91, l92, l93, l94, l95, l96, l97, l98, l99, l100, l101, l102, l103, l104, l105, l106, l107, l108, l109, l110, l111, l112, l113, l114, l115, l116, l117, l118, l119, l120, l121, l122, l123, l124, l125, l126, l127, l128, l129, l130, l131, l196, l200, l245, l255, l368, l369, l370, l382, l383, l384, l385, l386, l387, l388, l394, l395, l400, l401, l617, l738, l800, l999, l1000, l1500, l1600, l2400, l3195, l5920, l5995, l11990, l99999, l1000000, l100000000, l1000000000, l2000000000, l2147483647]
  rw [X_cntF h h7 hb xr n FUEL 0 0 (by omega) (by omega) (by unfold FUEL; omega)]
  unfold cntB
  rw [hn, nat32_ofN (by omega)]
theorem X_drop (h : BkSh b σ) {n ns nr l : Nat} {key : Int32} (hr : BkRel I L b B Q) (hB : BD B n ns nr l) (hz : 0 < plcB B 0 key) :
    ∃ I', X3_drop (some b) key (hw σ I L) = some (hw σ I' L) ∧ FrI b (b + 6) I I' ∧ BkRel I' L b (dropB B key) Q := by
  have hp1 := X_place (key := key) h hr hB.1.1.1 hB.1.1.2 hB.2.1
  have hp2 := X_placeSampled (key := key) h hr hB.1.2.1.1 (by have := hB.1.2.1.2; omega) hB.2.2
  obtain ⟨⟨⟨n0, n1⟩, ⟨s0, s1⟩, ⟨r0, r1⟩, lm0, lm1, lm2⟩, d1, d2⟩ := hB
  have hp := plcB_le (key := key) n0 (by omega)
  have hq := plcB_le (key := key) s0 (by omega)
  obtain ⟨x5, x6, x7, x8, xs, xc, xm, xr, xp, xq⟩ := hr
  have x5' : I b 5 = ofN n := x5.trans n0
  have x6' : I b 6 = ofN ns := x6.trans s0
  rw [n0, nat32_ofN (by omega)] at xs
  have xm0 := xm
  rw [s0, nat32_ofN (by omega)] at xm
  unfold dropB
  rw [plc_out n0 n1 s0 (by omega)]
  have g0 : ∀ j, outB B 0 (plcB B 0 key) j = if j = 0 then ofN (n - 1) else if plcB B 0 key ≤ j ∧ j < n then B (j + 1) else B j := by
    intro j
    rw [outB_at n0 (by omega), ofN_sub (by omega)]
    simp only [Nat.zero_add]
  have g50 : outB B 0 (plcB B 0 key) 50 = ofN ns := by rw [g0, if_neg (by omega), if_neg (by omega)]; exact s0
  rcases Nat.lt_or_ge 0 (plcB B 50 key) with hy | hy
  · rw [if_pos hy]
    have g1 : ∀ j, outB (outB B 0 (plcB B 0 key)) 50 (plcB B 50 key) j = if j = 50 then ofN (ns - 1) else if 50 + plcB B 50 key ≤ j ∧ j < 50 + ns then B (j + 1) else outB B 0 (plcB B 0 key) j := by
      intro j
      rw [outB_at g50 (by omega), ofN_sub (by omega)]
      by_cases hj : j = 50
      · rw [if_pos hj, if_pos hj]
      · rw [if_neg hj, if_neg hj]
        by_cases hj2 : 50 + plcB B 50 key ≤ j ∧ j < 50 + ns
        · rw [if_pos hj2, if_pos hj2, g0, if_neg (by omega), if_neg (by omega)]
        · rw [if_neg hj2, if_neg hj2]
    simp (disch := first | omega | assumption) only [X3_drop, X3_leave, hp1, hp2, x5', x6', bC0 h h, bC2 h h, up1_eq, up1_ne, ups_eq, ups_ne, if_neg, bgI, bgL, bpI, bpZ0, bpZ1, bpL, bcT, bR0, bN0, bA0, bS0, bR1, bN1, bA1, bS1, bR2, bN2, bA2, bS2, bR3, bN3, bA3, bS3, bR4, bN4, bA4, bS4, Option.bind_some, ofN_add, ofN_mul, ofN_sub, ofN_lt, ofN_le, ofN_inj, ofN_dec, ofN_lt_neg, neg_lt_ofN, ofN_le_neg, neg_le_ofN, ofN_eq_neg, neg_eq_ofN, ofN_irm, ofN_div, l0, l1, l2, l3, l4, l5, l6, l7, l8, l9, l10, l11, l12, l13, l14, l15, l16, l17, l18, l19, l20, l21, l22, l23, l24, l25, l26, l27, l28, l29, l30, l31, l32, l33, l34, l35, l36, l37, l38, l39, l40, l41, l42, l43, l44, l45, l46, l47, l48, l49, l50, l51, l52, l53, l54, l55, l56, l57, l58, l59, l60, l61, l62, l63, l64, l65, l66, l67, l68, l69, l70, l71, l72, l73, l74, l75, l76, l77, l78, l79, l80, l81, l82, l83, l84, l85, l86, l87, l88, l89, l90, l91, l92, l93, l94, l95, l96, l97, l98, l99, l100, l101, l102, l103, l104, l105, l106, l107, l108, l109, l110, l111, l112, l113, l114, l115, l116, l117, l118, l119, l120, l121, l122, l123, l124, l125, l126, l127, l128, l129, l130, l131, l196, l200, l245, l255, l368, l369, l370, l382, l383, l384, l385, l386, l387, l388, l394, l395, l400, l401, l617, l738, l800, l999, l1000, l1500, l1600, l2400, l3195, l5920, l5995, l11990, l99999, l1000000, l100000000, l1000000000, l2000000000, l2147483647]
    refine ⟨_, rfl, fun a ha => by simp (disch := omega) only [up1_ne], ?_⟩
    refine ⟨?_, ?_, ?_, ?_, ?_, ?_, ?_, ?_, xp, xq⟩
    all_goals simp (disch := omega) only [up1_eq, up1_ne, ups_eq, ups_ne, g1, g0, if_pos, if_neg, if_true, nat32_ofN]
    all_goals clear hp1 hp2 g0 g1 d1 d2
    all_goals first | rfl | exact x7 | exact x8 | exact xr | (intro i hi; (try unfold va_cpy); grind)
  · rw [if_neg (show ¬ 0 < plcB B 50 key by omega)]
    simp (disch := first | omega | assumption) only [X3_drop, X3_leave, hp1, hp2, x5', x6', bC0 h h, bC2 h h, up1_eq, up1_ne, ups_eq, ups_ne, if_pos, bgI, bgL, bpI, bpZ0, bpZ1, bpL, bcT, bR0, bN0, bA0, bS0, bR1, bN1, bA1, bS1, bR2, bN2, bA2, bS2, bR3, bN3, bA3, bS3, bR4, bN4, bA4, bS4, Option.bind_some, ofN_add, ofN_mul, ofN_sub, ofN_lt, ofN_le, ofN_inj, ofN_dec, ofN_lt_neg, neg_lt_ofN, ofN_le_neg, neg_le_ofN, ofN_eq_neg, neg_eq_ofN, ofN_irm, ofN_div, l0, l1, l2, l3, l4, l5, l6, l7, l8, l9, l10, l11, l12, l13, l14, l15, l16, l17, l18, l19, l20, l21, l22, l23, l24, l25, l26, l27, l28, l29, l30, l31, l32, l33, l34, l35, l36, l37, l38, l39, l40, l41, l42, l43, l44, l45, l46, l47, l48, l49, l50, l51, l52, l53, l54, l55, l56, l57, l58, l59, l60, l61, l62, l63, l64, l65, l66, l67, l68, l69, l70, l71, l72, l73, l74, l75, l76, l77, l78, l79, l80, l81, l82, l83, l84, l85, l86, l87, l88, l89, l90, l91, l92, l93, l94, l95, l96, l97, l98, l99, l100, l101, l102, l103, l104, l105, l106, l107, l108, l109, l110, l111, l112, l113, l114, l115, l116, l117, l118, l119, l120, l121, l122, l123, l124, l125, l126, l127, l128, l129, l130, l131, l196, l200, l245, l255, l368, l369, l370, l382, l383, l384, l385, l386, l387, l388, l394, l395, l400, l401, l617, l738, l800, l999, l1000, l1500, l1600, l2400, l3195, l5920, l5995, l11990, l99999, l1000000, l100000000, l1000000000, l2000000000, l2147483647]
    refine ⟨_, rfl, fun a ha => by simp (disch := omega) only [up1_ne], ?_⟩
    refine ⟨?_, ?_, ?_, ?_, ?_, ?_, ?_, ?_, xp, xq⟩
    all_goals simp (disch := omega) only [up1_eq, up1_ne, ups_eq, ups_ne, g0, if_pos, if_neg, if_true, nat32_ofN]
    all_goals clear hp1 hp2 g0 d1 d2
    all_goals first | rfl | exact xm0 | exact x6 | exact x7 | exact x8 | exact xr | (intro i hi; (try unfold va_cpy); grind)
theorem X_halfF (h : BkSh b σ) {kk : Int32 → Hp → Option (Int32 × Hp)} : ∀ (r fuel k : Nat) (x : Int32) (I : IM) (B : Nat → Int32), (∀ i, i < 25 → I (b + 2) i = B (25 + i)) → 25 = k + r → r < fuel →
    X3_halve_c4 (some b) kk fuel x (ofN k) (hw σ I L) = kk (hsF B r k x) (hw σ (up1 I (b + 2) (fun i => if k ≤ i ∧ i < 25 then I (b + 2) i / ofN 2 else I (b + 2) i)) L) := by
  intro r
  induction r with
  | zero =>
    intro fuel k x I B hB hk hf
    obtain ⟨f, rfl⟩ : ∃ f, fuel = f + 1 := ⟨fuel - 1, by omega⟩
    simp (disch := first | omega | assumption) only [X3_halve_c4, hsF, Option.bind_some, ofN_add, ofN_mul, ofN_sub, ofN_lt, ofN_le, ofN_inj, ofN_dec, ofN_lt_neg, neg_lt_ofN, ofN_le_neg, neg_le_ofN, ofN_eq_neg, neg_eq_ofN, ofN_irm, ofN_div, l0, l1, l2, l3, l4, l5, l6, l7, l8, l9, l10, l11, l12, l13, l14, l15, l16, l17, l18, l19, l20, l21, l22, l23, l24, l25, l26, l27, l28, l29, l30, l31, l32, l33, l34, l35, l36, l37, l38, l39, l40, l41, l42, l43, l44, l45, l46, l47, l48, l49, l50, l51, l52, l53, l54, l55, l56, l57, l58, l59, l60, l61, l62, l63, l64, l65, l66, l67, l68, l69, l70, l71, l72, l73, l74, l75, l76, l77, l78, l79, l80, l81, l82, l83, l84, l85, l86, l87, l88, l89, l90, l91, l92, l93, l94, l95, l96, l97, l98, l99, l100, l101, l102, l103, l104, l105, l106, l107, l108, l109, l110, l111, l112, l113, l114, l115, l116, l117, l118, l119, l120, l121, l122, l123, l124, l125, l126, l127, l128, l129, l130, l131, l196, l200, l245, l255, l368, l369, l370, l382, l383, l384, l385, l386, l387, l388, l394, l395, l400, l401, l617, l738, l800, l999, l1000, l1500, l1600, l2400, l3195, l5920, l5995, l11990, l99999, l1000000, l100000000, l1000000000, l2000000000, l2147483647]
    rw [if_pos (by omega)]
    have e : (fun i => if k ≤ i ∧ i < 25 then I (b + 2) i / ofN 2 else I (b + 2) i) = I (b + 2) := by
      funext i
      rw [if_neg (by omega)]
    rw [e, up1_self]
  | succ r ih =>
    intro fuel k x I B hB hk hf
    obtain ⟨f, rfl⟩ : ∃ f, fuel = f + 1 := ⟨fuel - 1, by omega⟩
    simp (disch := first | omega | assumption) only [X3_halve_c4, hsF, nar_int, up1_eq, ups_eq, bgI, bgL, bpI, bpZ0, bpZ1, bpL, bcT, bR0, bN0, bA0, bS0, bR1, bN1, bA1, bS1, bR2, bN2, bA2, bS2, bR3, bN3, bA3, bS3, bR4, bN4, bA4, bS4, Option.bind_some, ofN_add, ofN_mul, ofN_sub, ofN_lt, ofN_le, ofN_inj, ofN_dec, ofN_lt_neg, neg_lt_ofN, ofN_le_neg, neg_le_ofN, ofN_eq_neg, neg_eq_ofN, ofN_irm, ofN_div, l0, l1, l2, l3, l4, l5, l6, l7, l8, l9, l10, l11, l12, l13, l14, l15, l16, l17, l18, l19, l20, l21, l22, l23, l24, l25, l26, l27, l28, l29, l30, l31, l32, l33, l34, l35, l36, l37, l38, l39, l40, l41, l42, l43, l44, l45, l46, l47, l48, l49, l50, l51, l52, l53, l54, l55, l56, l57, l58, l59, l60, l61, l62, l63, l64, l65, l66, l67, l68, l69, l70, l71, l72, l73, l74, l75, l76, l77, l78, l79, l80, l81, l82, l83, l84, l85, l86, l87, l88, l89, l90, l91, l92, l93, l94, l95, l96, l97, l98, l99, l100, l101, l102, l103, l104, l105, l106, l107, l108, l109, l110, l111, l112, l113, l114, l115, l116, l117, l118, l119, l120, l121, l122, l123, l124, l125, l126, l127, l128, l129, l130, l131, l196, l200, l245, l255, l368, l369, l370, l382, l383, l384, l385, l386, l387, l388, l394, l395, l400, l401, l617, l738, l800, l999, l1000, l1500, l1600, l2400, l3195, l5920, l5995, l11990, l99999, l1000000, l100000000, l1000000000, l2000000000, l2147483647]
    rw [if_neg (by omega), ih f (k + 1) _ _ (ups B (25 + k) (B (25 + k) / ofN 2)) (fun i hi => ?_) (by omega) (by omega), up1_up1, up1_eq]
    · rw [hB k (by omega), hsF_congr (B' := B) r (k + 1) _ (fun j hj => ups_ne (by omega))]
      congr 3
      funext i
      unfold ups
      have := hB k (by omega)
      grind
    · rw [up1_eq]
      unfold ups
      have := hB k (by omega)
      have := hB i hi
      grind
theorem X_halfP (h : BkSh b σ) {x : Int32} : ∀ (r fuel k : Nat) (L : LM), 26 = k + r → r < fuel →
    X3_halve_c37 (some b) x fuel (ofN k) (hw σ I L) = some (x, hw σ I (up1 L (b + 5) (fun i => if k ≤ i ∧ i < 26 then L (b + 5) i / 2 else L (b + 5) i))) := by
  intro r
  induction r with
  | zero =>
    intro fuel k L hk hf
    obtain ⟨f, rfl⟩ : ∃ f, fuel = f + 1 := ⟨fuel - 1, by omega⟩
    simp (disch := first | omega | assumption) only [X3_halve_c37, bgI, bgL, bpI, bpZ0, bpZ1, bpL, bcT, bR0, bN0, bA0, bS0, bR1, bN1, bA1, bS1, bR2, bN2, bA2, bS2, bR3, bN3, bA3, bS3, bR4, bN4, bA4, bS4, Option.bind_some, ofN_add, ofN_mul, ofN_sub, ofN_lt, ofN_le, ofN_inj, ofN_dec, ofN_lt_neg, neg_lt_ofN, ofN_le_neg, neg_le_ofN, ofN_eq_neg, neg_eq_ofN, ofN_irm, ofN_div, l0, l1, l2, l3, l4, l5, l6, l7, l8, l9, l10, l11, l12, l13, l14, l15, l16, l17, l18, l19, l20, l21, l22, l23, l24, l25, l26, l27, l28, l29, l30, l31, l32, l33, l34, l35, l36, l37, l38, l39, l40, l41, l42, l43, l44, l45, l46, l47, l48, l49, l50, l51, l52, l53, l54, l55, l56, l57, l58, l59, l60, l61, l62, l63, l64, l65, l66, l67, l68, l69, l70, l71, l72, l73, l74, l75, l76, l77, l78, l79, l80, l81, l82, l83, l84, l85, l86, l87, l88, l89, l90, l91, l92, l93, l94, l95, l96, l97, l98, l99, l100, l101, l102, l103, l104, l105, l106, l107, l108, l109, l110, l111, l112, l113, l114, l115, l116, l117, l118, l119, l120, l121, l122, l123, l124, l125, l126, l127, l128, l129, l130, l131, l196, l200, l245, l255, l368, l369, l370, l382, l383, l384, l385, l386, l387, l388, l394, l395, l400, l401, l617, l738, l800, l999, l1000, l1500, l1600, l2400, l3195, l5920, l5995, l11990, l99999, l1000000, l100000000, l1000000000, l2000000000, l2147483647]
    rw [if_pos (by omega)]
    have e : (fun i => if k ≤ i ∧ i < 26 then L (b + 5) i / 2 else L (b + 5) i) = L (b + 5) := by
      funext i
      rw [if_neg (by omega)]
    rw [e, up1_self]
  | succ r ih =>
    intro fuel k L hk hf
    obtain ⟨f, rfl⟩ : ∃ f, fuel = f + 1 := ⟨fuel - 1, by omega⟩
    simp (disch := first | omega | assumption) only [X3_halve_c37, bgI, bgL, bpI, bpZ0, bpZ1, bpL, bcT, bR0, bN0, bA0, bS0, bR1, bN1, bA1, bS1, bR2, bN2, bA2, bS2, bR3, bN3, bA3, bS3, bR4, bN4, bA4, bS4, Option.bind_some, ofN_add, ofN_mul, ofN_sub, ofN_lt, ofN_le, ofN_inj, ofN_dec, ofN_lt_neg, neg_lt_ofN, ofN_le_neg, neg_le_ofN, ofN_eq_neg, neg_eq_ofN, ofN_irm, ofN_div, l0, l1, l2, l3, l4, l5, l6, l7, l8, l9, l10, l11, l12, l13, l14, l15, l16, l17, l18, l19, l20, l21, l22, l23, l24, l25, l26, l27, l28, l29, l30, l31, l32, l33, l34, l35, l36, l37, l38, l39, l40, l41, l42, l43, l44, l45, l46, l47, l48, l49, l50, l51, l52, l53, l54, l55, l56, l57, l58, l59, l60, l61, l62, l63, l64, l65, l66, l67, l68, l69, l70, l71, l72, l73, l74, l75, l76, l77, l78, l79, l80, l81, l82, l83, l84, l85, l86, l87, l88, l89, l90, l91, l92, l93, l94, l95, l96, l97, l98, l99, l100, l101, l102, l103, l104, l105, l106, l107, l108, l109, l110, l111, l112, l113, l114, l115, l116, l117, l118, l119, l120, l121, l122, l123, l124, l125, l126, l127, l128, l129, l130, l131, l196, l200, l245, l255, l368, l369, l370, l382, l383, l384, l385, l386, l387, l388, l394, l395, l400, l401, l617, l738, l800, l999, l1000, l1500, l1600, l2400, l3195, l5920, l5995, l11990, l99999, l1000000, l100000000, l1000000000, l2000000000, l2147483647]
    rw [if_neg (by omega), ih f (k + 1) _ (by omega) (by omega), up1_up1, up1_eq]
    congr 4
    funext i
    unfold ups
    grind
/-- parts, halved -/
def halfQ (Q : Nat → Int64) : Nat → Int64 := fun j => if j < 25 then Q j / 2 else Q j
theorem X_halve (h : BkSh b σ) {n ns nr l : Nat} (hr : BkRel I L b B Q) (hB : BN B n ns nr l) :
    ∃ I' L', X3_halve (some b) (hw σ I L) = some (hsF B 25 0 (ofN 0), hw σ I' L') ∧ FrI b (b + 6) I I' ∧ FrL b (b + 6) L L' ∧ BkRel I' L' b (halfF B 0) (halfQ Q) := by
  obtain ⟨⟨n0, n1⟩, ⟨s0, s1⟩, ⟨r0, r1⟩, lm0, lm1, lm2⟩ := hB
  obtain ⟨x5, x6, x7, x8, xs, xc, xm, xr, xp, xq⟩ := hr
  simp (disch := first | omega | assumption) only [X3_halve, Option.bind_some, ofN_add, ofN_mul, ofN_sub, ofN_lt, ofN_le, ofN_inj, ofN_dec, ofN_lt_neg, neg_lt_ofN, ofN_le_neg, neg_le_ofN, ofN_eq_neg, neg_eq_ofN, ofN_irm, ofN_div, l0, l1, l2, l3, l4, l5, l6, l7, l8, l9, l10, l11, l12, l13, l14, l15, l16, l17, l18, l19, l20, l21, l22, l23, l24, l25, l26, l27, l28, l29, l30, l31, l32, l33, l34, l35, l36, l37, l38, l39, l40, l41, l42, l43, l44, l45, l46, l47, l48, l49, l50, l51, l52, l53, l54, l55, l56, l57, l58, l59, l60, l61, l62, l63, l64, l65, l66, l67, l68, l69, l70, l71, l72, l73, l74, l75, l76, l77, l78, l79, l80, l81, l82, l83, l84, l85, l86, l87, l88, l89, l90, l91, l92, l93, l94, l95, l96, l97, l98, l99, l100, l101, l102, l103, l104, l105, l106, l107, l108, l109, l110, l111, l112, l113, l114, l115, l116, l117, l118, l119, l120, l121, l122, l123, l124, l125, l126, l127, l128, l129, l130, l131, l196, l200, l245, l255, l368, l369, l370, l382, l383, l384, l385, l386, l387, l388, l394, l395, l400, l401, l617, l738, l800, l999, l1000, l1500, l1600, l2400, l3195, l5920, l5995, l11990, l99999, l1000000, l100000000, l1000000000, l2000000000, l2147483647]
  rw [X_halfF h 25 FUEL 0 (ofN 0) I B xc (by omega) (by unfold FUEL; omega), X_halfP h 26 FUEL 0 L (by omega) (by unfold FUEL; omega)]
  have g : ∀ j, j < 25 ∨ 50 ≤ j → halfF B 0 j = B j := fun j hj => if_neg (by omega)
  have c : ∀ i, i < 25 → halfF B 0 (25 + i) = B (25 + i) / ofN 2 := fun i hi => if_pos (by omega)
  rw [n0, nat32_ofN (by omega)] at xs
  rw [s0, nat32_ofN (by omega)] at xm
  rw [r0, nat32_ofN (by omega)] at xr
  refine ⟨_, _, rfl, fun a ha => up1_ne (by omega), fun a ha => up1_ne (by omega), ?_, ?_, ?_, ?_, ?_, ?_, ?_, ?_, ?_, ?_⟩
  · rw [up1_ne (by omega), g 0 (by omega)]; exact x5
  · rw [up1_ne (by omega), g 50 (by omega)]; exact x6
  · rw [up1_ne (by omega), g 59 (by omega)]; exact x7
  · rw [up1_ne (by omega), g 58 (by omega)]; exact x8
  · intro i hi
    rw [g 0 (by omega), n0, nat32_ofN (by omega)] at hi
    rw [up1_ne (by omega), g (1 + i) (by omega)]; exact xs i hi
  · intro i hi
    rw [up1_eq, c i hi, if_pos (by omega), xc i hi]
  · intro i hi
    rw [g 50 (by omega), s0, nat32_ofN (by omega)] at hi
    rw [up1_ne (by omega), g (51 + i) (by omega)]; exact xm i hi
  · intro i hi
    rw [g 59 (by omega), r0, nat32_ofN (by omega)] at hi
    rw [up1_ne (by omega), g (60 + i) (by omega)]; exact xr i hi
  · intro i i1 i2
    rw [up1_eq, if_pos (by omega), xp i i1 i2]
    unfold halfQ
    rw [if_pos (by omega)]
  · rw [up1_eq, if_pos (by omega), xq]
    unfold halfQ
    rw [if_pos (by omega)]
end XB2
