set_option maxRecDepth 100000
/-! ROWS. One tenant's 92 ints: B. -/
def nat32 (x : Int32) : Nat := x.toNatClampNeg
theorem nat32_ofN {a : Nat} (h : a < 2147483648) : nat32 (ofN a) = a := ofN_toN h
def shl {α : Type} (B : Nat → α) (lo hi : Nat) : Nat → α := fun i => if lo ≤ i ∧ i < hi then B (i + 1) else B i
def shr {α : Type} (B : Nat → α) (lo hi : Nat) : Nat → α := fun i => if lo < i ∧ i ≤ hi then B (i - 1) else B i
def plcF (B : Nat → Int32) (row : Nat) (key : Int32) : Nat → Nat → Nat
  | 0, _ => 0
  | r + 1, k => if B (row + k) = key then k else plcF B row key r (k + 1)
def plcB (B : Nat → Int32) (row : Nat) (key : Int32) : Nat := plcF B row key (nat32 (B row)) 1
def outB (B : Nat → Int32) (row p : Nat) : Nat → Int32 := ups (shl B (row + p) (row + nat32 (B row))) row (B row - ofN 1)
def firstB (B : Nat → Int32) (row : Nat) (key : Int32) : Nat → Int32 := ups (ups (shr B (row + 1) (row + nat32 (B row) + 1)) (row + 1) key) row (B row + ofN 1)
def lastB (B : Nat → Int32) (row : Nat) (key : Int32) : Nat → Int32 := ups (ups B (row + (nat32 (B row) + 1)) key) row (B row + ofN 1)
def vw (K : Nat → Int32) (t : Nat) : Nat → Int32 := fun j => if j < 92 then K (92 * t + j) else 0
theorem vw_at {K : Nat → Int32} {t j : Nat} (h : j < 92) : vw K t j = K (92 * t + j) := if_pos h
def vwL (P : Nat → Int64) (t : Nat) : Nat → Int64 := fun j => if j < 25 then P (25 * t + j) else 0
theorem vwL_at {P : Nat → Int64} {t j : Nat} (h : j < 25) : vwL P t j = P (25 * t + j) := if_pos h
def svL (P : Nat → Int64) (t : Nat) (Q : Nat → Int64) : Nat → Int64 := fun i => if 25 * t ≤ i ∧ i < 25 * t + 25 then Q (i - 25 * t) else P i
/-- nothing behind a tenant's ints -/
def Cut (B : Nat → Int32) : Prop := ∀ j, 92 ≤ j → B j = 0
theorem cut_vw {K : Nat → Int32} {t : Nat} : Cut (vw K t) := fun j h => if_neg (by omega)
theorem cut_ups {B : Nat → Int32} {j : Nat} {v : Int32} (h : Cut B) (hj : j < 92) : Cut (ups B j v) := fun i hi => (ups_ne (by omega)).trans (h i hi)
theorem cut_out {B : Nat → Int32} {row p n : Nat} (h : Cut B) (hn : B row = ofN n) (hr : row + n < 92) : Cut (outB B row p) := by
  intro i hi
  unfold outB shl ups
  rw [hn, nat32_ofN (by omega), if_neg (by omega)]
  exact (if_neg (by omega)).trans (h i hi)
theorem cut_first {B : Nat → Int32} {row n : Nat} {key : Int32} (h : Cut B) (hn : B row = ofN n) (hr : row + n + 1 < 92) : Cut (firstB B row key) := by
  intro i hi
  unfold firstB shr ups
  rw [hn, nat32_ofN (by omega), if_neg (by omega), if_neg (by omega)]
  exact (if_neg (by omega)).trans (h i hi)
theorem cut_last {B : Nat → Int32} {row n : Nat} {key : Int32} (h : Cut B) (hn : B row = ofN n) (hr : row + n + 1 < 92) : Cut (lastB B row key) := by
  intro i hi
  unfold lastB ups
  rw [hn, nat32_ofN (by omega), if_neg (by omega), if_neg (by omega)]
  exact h i hi
def sv (K : Nat → Int32) (t : Nat) (B : Nat → Int32) : Nat → Int32 := fun i => if 92 * t ≤ i ∧ i < 92 * t + 92 then B (i - 92 * t) else K i
section ROWS
variable {m : Nat} {σ : Hp} {I : IM} {L : LM}
theorem M_placeF (h : MSh m σ) {t row n : Nat} {key : Int32} (ht : t < 4) (hb : row + n < 92) : ∀ (r fuel k : Nat), n + 1 = k + r → r < fuel →
    X7_placeIn_c15 (some m) (ofN t) (ofN row) key (ofN n) fuel (ofN k) (hw σ I L) = some (ofN (plcF (vw (I (m + 2)) t) row key r k), hw σ I L) := by
  intro r
  induction r with
  | zero =>
    intro fuel k hk hf
    obtain ⟨f, rfl⟩ : ∃ f, fuel = f + 1 := ⟨fuel - 1, by omega⟩
    simp (disch := first | omega | assumption) only [X7_placeIn_c15, plcF, Option.bind_some, ofN_add, ofN_mul, ofN_sub, ofN_lt, ofN_le, ofN_inj, ofN_dec, ofN_lt_neg, neg_lt_ofN, ofN_le_neg, neg_le_ofN, ofN_eq_neg, neg_eq_ofN, ofN_irm, ofN_div, l0, l1, l2, l3, l4, l5, l6, l7, l8, l9, l10, l11, l12, l13, l14, l15, l16, l17, l18, l19, l20, l21, l22, l23, l24, l25, l26, l27, l28, l29, l30, l31, l32, l33, l34, l35, l36, l37, l38, l39, l40, l41, l42, l43, l44, l45, l46, l47, l48, l49, l50, l51, l52, l53, l54, l55, l56, l57, l58, l59, l60, l61, l62, l63, l64, l65, l66, l67, l68, l69, l70, l71, l72, l73, l74, l75, l76, l77, l78, l79, l80, l81, l82, l83, l84, l85, l86, l87, l88, l89, l90, l91, l92, l93, l94, l95, l96, l97, l98, l99, l100, l101, l102, l103, l104, l105, l106, l107, l108, l109, l110, l111, l112, l113, l114, l115, l116, l117, l118, l119, l120, l121, l122, l123, l124, l125, l126, l127, l128, l129, l130, l131, l196, l200, l245, l255, l368, l369, l370, l382, l383, l384, l385, l386, l387, l388, l394, l395, l400, l401, l617, l738, l800, l999, l1000, l1500, l1600, l2400, l3195, l5920, l5995, l11990, l99999, l1000000, l100000000, l1000000000, l2000000000, l2147483647]
    rw [if_pos (by omega)]
  | succ r ih =>
    intro fuel k hk hf
    obtain ⟨f, rfl⟩ : ∃ f, fuel = f + 1 := ⟨fuel - 1, by omega⟩
    simp (disch := first | omega | assumption) only [X7_placeIn_c15, X7_at, plcF, mgI, mgL, mpI, mpZ0, mpZ1, mpL, mcT, rZ0, rZ1, mR1, mA1, mS1, mR2, mA2, mS2, mR3, mA3, mS3, mR4, mA4, mS4, mR5, mA5, mS5, mR6, mA6, mS6, mR7, mA7, mS7, mR8, mA8, mS8, mR10, mA10, mS10, mR14, mA14, mS14, mR15, mA15, mS15, mR18, mA18, mS18, mR19, mA19, mS19, mR20, mA20, mS20, mR29, mA29, mS29, mR32, mA32, mS32, mR33, mA33, mS33, mR34, mA34, mS34, mR35, mA35, mS35, mR37, mA37, mS37, mR38, mA38, mS38, mR39, mA39, mS39, mR40, mA40, mS40, mR41, mA41, mS41, mR43, mA43, mS43, mR46, mA46, mS46, mR47, mA47, mS47, mR48, mA48, mS48, mR49, mA49, mS49, mR50, mA50, mS50, mR51, mA51, mS51, mR52, mA52, mS52, mR53, mA53, mS53, mR60, mA60, mS60, mR61, mA61, mS61, Option.bind_some, ofN_add, ofN_mul, ofN_sub, ofN_lt, ofN_le, ofN_inj, ofN_dec, ofN_lt_neg, neg_lt_ofN, ofN_le_neg, neg_le_ofN, ofN_eq_neg, neg_eq_ofN, ofN_irm, ofN_div, l0, l1, l2, l3, l4, l5, l6, l7, l8, l9, l10, l11, l12, l13, l14, l15, l16, l17, l18, l19, l20, l21, l22, l23, l24, l25, l26, l27, l28, l29, l30, l31, l32, l33, l34, l35, l36, l37, l38, l39, l40, l41, l42, l43, l44, l45, l46, l47, l48, l49, l50, l51, l52, l53, l54, l55, l56, l57, l58, l59, l60, l61, l62, l63, l64, l65, l66, l67, l68, l69, l70, l71, l72, l73, l74, l75, l76, l77, l78, l79, l80, l81, l82, l83, l84, l85, l86, l87, l88, l89, l90, l91, l92, l93, l94, l95, l96, l97, l98, l99, l100, l101, l102, l103, l104, l105, l106, l107, l108, l109, l110, l111, l112, l113, l114, l115, l116, l117, l118, l119, l120, l121, l122, l123, l124, l125, l126, l127, l128, l129, l130, l131, l196, l200, l245, l255, l368, l369, l370, l382, l383, l384, l385, l386, l387, l388, l394, l395, l400, l401, l617, l738, l800, l999, l1000, l1500, l1600, l2400, l3195, l5920, l5995, l11990, l99999, l1000000, l100000000, l1000000000, l2000000000, l2147483647]
    rw [if_neg (by omega)]
    by_cases hq : I (m + 2) (92 * t + (row + k)) = key
    · have hq' : vw (I (m + 2)) t (row + k) = key := (vw_at (by omega)).trans hq
      rw [if_pos hq, if_pos hq']
    · have hq' : ¬ vw (I (m + 2)) t (row + k) = key := by rw [vw_at (by omega)]; exact hq
      rw [if_neg hq, if_neg hq']
      exact ih f (k + 1) (by omega) (by omega)
theorem M_placeIn (h : MSh m σ) {t row n : Nat} {key : Int32} (ht : t < 4) (hn : vw (I (m + 2)) t row = ofN n) (hb : row + n < 92) :
    X7_placeIn (some m) (ofN t) (ofN row) key (hw σ I L) = some (ofN (plcB (vw (I (m + 2)) t) row key), hw σ I L) := by
  have hn' : I (m + 2) (92 * t + row) = ofN n := (vw_at (by omega)).symm.trans hn
  simp (disch := first | omega | assumption) only [X7_placeIn, X7_at, mgI, mgL, mpI, mpZ0, mpZ1, mpL, mcT, rZ0, rZ1, mR1, mA1, mS1, mR2, mA2, mS2, mR3, mA3, mS3, mR4, mA4, mS4, mR5, mA5, mS5, mR6, mA6, mS6, mR7, mA7, mS7, mR8, mA8, mS8, mR10, mA10, mS10, mR14, mA14, mS14, mR15, mA15, mS15, mR18, mA18, mS18, mR19, mA19, mS19, mR20, mA20, mS20, mR29, mA29, mS29, mR32, mA32, mS32, mR33, mA33, mS33, mR34, mA34, mS34, mR35, mA35, mS35, mR37, mA37, mS37, mR38, mA38, mS38, mR39, mA39, mS39, mR40, mA40, mS40, mR41, mA41, mS41, mR43, mA43, mS43, mR46, mA46, mS46, mR47, mA47, mS47, mR48, mA48, mS48, mR49, mA49, mS49, mR50, mA50, mS50, mR51, mA51, mS51, mR52, mA52, mS52, mR53, mA53, mS53, mR60, mA60, mS60, mR61, mA61, mS61, Option.bind_some, ofN_add, ofN_mul, ofN_sub, ofN_lt, ofN_le, ofN_inj, ofN_dec, ofN_lt_neg, neg_lt_ofN, ofN_le_neg, neg_le_ofN, ofN_eq_neg, neg_eq_ofN, ofN_irm, ofN_div, l0, l1, l2, l3, l4, l5, l6, l7, l8, l9, l10, l11, l12, l13, l14, l15, l16, l17, l18, l19, l20, l21, l22, l23, l24, l25, l26, l27, l28, l29, l30, l31, l32, l33, l34, l35, l36, l37, l38, l39, l40, l41, l42, l43, l44, l45, l46, l47, l48, l49, l50, l51, l52, l53, l54, l55, l56, l57, l58, l59, l60, l61, l62, l63, l64, l65, l66, l67, l68, l69, l70, l71, l72, l73, l74, l75, l76, l77, l78, l79, l80, l81, l82, l83, l84, l85, l86, l87, l88, l89, l90, l91, l92, l93, l94, l95, l96, l97, l98, l99, l100, l101, l102, l103, l104, l105, l106, l107, l108, l109, l110, l111, l112, l113, l114, l115, l116, l117, l118, l119, l120, l121, l122, l123, l124, l125, l126, l127, l128, l129, l130, l131, l196, l200, l245, l255, l368, l369, l370, l382, l383, l384, l385, l386, l387, l388, l394, l395, l400, l401, l617, l738, l800, l999, l1000, l1500, l1600, l2400, l3195, l5920, l5995, l11990, l99999, l1000000, l100000000, l1000000000, l2000000000, l2147483647]
  rw [hn', M_placeF h ht hb n FUEL 1 (by omega) (by unfold FUEL; omega)]
  unfold plcB
  rw [hn, nat32_ofN (by omega)]
theorem M_goesF (h : MSh m σ) {t row n : Nat} {kk : Hp → Option Hp} (hb : 92 * t + (row + n) < 5995) : ∀ (r fuel k : Nat) (I : IM), n = k + r → r < fuel →
    X7_goesOut_c15 (some m) (ofN t) (ofN row) (ofN n) kk fuel (ofN k) (hw σ I L) = kk (hw σ (up1 I (m + 2) (shl (I (m + 2)) (92 * t + (row + k)) (92 * t + (row + n)))) L) := by
  intro r
  induction r with
  | zero =>
    intro fuel k I hk hf
    obtain ⟨f, rfl⟩ : ∃ f, fuel = f + 1 := ⟨fuel - 1, by omega⟩
    simp (disch := first | omega | assumption) only [X7_goesOut_c15, Option.bind_some, ofN_add, ofN_mul, ofN_sub, ofN_lt, ofN_le, ofN_inj, ofN_dec, ofN_lt_neg, neg_lt_ofN, ofN_le_neg, neg_le_ofN, ofN_eq_neg, neg_eq_ofN, ofN_irm, ofN_div, l0, l1, l2, l3, l4, l5, l6, l7, l8, l9, l10, l11, l12, l13, l14, l15, l16, l17, l18, l19, l20, l21, l22, l23, l24, l25, l26, l27, l28, l29, l30, l31, l32, l33, l34, l35, l36, l37, l38, l39, l40, l41, l42, l43, l44, l45, l46, l47, l48, l49, l50, l51, l52, l53, l54, l55, l56, l57, l58, l59, l60, l61, l62, l63, l64, l65, l66, l67, l68, l69, l70, l71, l72, l73, l74, l75, l76, l77, l78, l79, l80, l81, l82, l83, l84, l85, l86, l87, l88, l89, l90, l91, l92, l93, l94, l95, l96, l97, l98, l99, l100, l101, l102, l103, l104, l105, l106, l107, l108, l109, l110, l111, l112, l113, l114, l115, l116, l117, l118, l119, l120, l121, l122, l123, l124, l125, l126, l127, l128, l129, l130, l131, l196, l200, l245, l255, l368, l369, l370, l382, l383, l384, l385, l386, l387, l388, l394, l395, l400, l401, l617, l738, l800, l999, l1000, l1500, l1600, l2400, l3195, l5920, l5995, l11990, l99999, l1000000, l100000000, l1000000000, l2000000000, l2147483647]
    rw [if_pos (by omega)]
    have e : shl (I (m + 2)) (92 * t + (row + k)) (92 * t + (row + n)) = I (m + 2) := by
      funext i
      unfold shl
      rw [if_neg (by omega)]
    rw [e, up1_self]
  | succ r ih =>
    intro fuel k I hk hf
    obtain ⟨f, rfl⟩ : ∃ f, fuel = f + 1 := ⟨fuel - 1, by omega⟩
    simp (disch := first | omega | assumption) only [X7_goesOut_c15, X7_at, mgI, mgL, mpI, mpZ0, mpZ1, mpL, mcT, rZ0, rZ1, mR1, mA1, mS1, mR2, mA2, mS2, mR3, mA3, mS3, mR4, mA4, mS4, mR5, mA5, mS5, mR6, mA6, mS6, mR7, mA7, mS7, mR8, mA8, mS8, mR10, mA10, mS10, mR14, mA14, mS14, mR15, mA15, mS15, mR18, mA18, mS18, mR19, mA19, mS19, mR20, mA20, mS20, mR29, mA29, mS29, mR32, mA32, mS32, mR33, mA33, mS33, mR34, mA34, mS34, mR35, mA35, mS35, mR37, mA37, mS37, mR38, mA38, mS38, mR39, mA39, mS39, mR40, mA40, mS40, mR41, mA41, mS41, mR43, mA43, mS43, mR46, mA46, mS46, mR47, mA47, mS47, mR48, mA48, mS48, mR49, mA49, mS49, mR50, mA50, mS50, mR51, mA51, mS51, mR52, mA52, mS52, mR53, mA53, mS53, mR60, mA60, mS60, mR61, mA61, mS61, Option.bind_some, ofN_add, ofN_mul, ofN_sub, ofN_lt, ofN_le, ofN_inj, ofN_dec, ofN_lt_neg, neg_lt_ofN, ofN_le_neg, neg_le_ofN, ofN_eq_neg, neg_eq_ofN, ofN_irm, ofN_div, l0, l1, l2, l3, l4, l5, l6, l7, l8, l9, l10, l11, l12, l13, l14, l15, l16, l17, l18, l19, l20, l21, l22, l23, l24, l25, l26, l27, l28, l29, l30, l31, l32, l33, l34, l35, l36, l37, l38, l39, l40, l41, l42, l43, l44, l45, l46, l47, l48, l49, l50, l51, l52, l53, l54, l55, l56, l57, l58, l59, l60, l61, l62, l63, l64, l65, l66, l67, l68, l69, l70, l71, l72, l73, l74, l75, l76, l77, l78, l79, l80, l81, l82, l83, l84, l85, l86, l87, l88, l89, l90, l91, l92, l93, l94, l95, l96, l97, l98, l99, l100, l101, l102, l103, l104, l105, l106, l107, l108, l109, l110, l111, l112, l113, l114, l115, l116, l117, l118, l119, l120, l121, l122, l123, l124, l125, l126, l127, l128, l129, l130, l131, l196, l200, l245, l255, l368, l369, l370, l382, l383, l384, l385, l386, l387, l388, l394, l395, l400, l401, l617, l738, l800, l999, l1000, l1500, l1600, l2400, l3195, l5920, l5995, l11990, l99999, l1000000, l100000000, l1000000000, l2000000000, l2147483647]
    rw [if_neg (by omega), ih f (k + 1) _ (by omega) (by omega), up1_up1, up1_eq]
    congr 3
    funext i
    unfold shl ups
    grind
theorem M_firstF (h : MSh m σ) {t row n : Nat} {key : Int32} {kk : Hp → Option Hp} {z : Int32} (hb : 92 * t + (row + n) + 1 < 5995) : ∀ (k fuel : Nat) (I : IM), k ≤ n → k < fuel →
    X7_comesFirst_c16 (some m) (ofN t) (ofN row) key z kk fuel (ofN k) (hw σ I L) = kk (hw σ (up1 I (m + 2) (shr (I (m + 2)) (92 * t + (row + 1)) (92 * t + (row + k + 1)))) L) := by
  intro k
  induction k with
  | zero =>
    intro fuel I hk hf
    obtain ⟨f, rfl⟩ : ∃ f, fuel = f + 1 := ⟨fuel - 1, by omega⟩
    simp (disch := first | omega | assumption) only [X7_comesFirst_c16, Option.bind_some, ofN_add, ofN_mul, ofN_sub, ofN_lt, ofN_le, ofN_inj, ofN_dec, ofN_lt_neg, neg_lt_ofN, ofN_le_neg, neg_le_ofN, ofN_eq_neg, neg_eq_ofN, ofN_irm, ofN_div, l0, l1, l2, l3, l4, l5, l6, l7, l8, l9, l10, l11, l12, l13, l14, l15, l16, l17, l18, l19, l20, l21, l22, l23, l24, l25, l26, l27, l28, l29, l30, l31, l32, l33, l34, l35, l36, l37, l38, l39, l40, l41, l42, l43, l44, l45, l46, l47, l48, l49, l50, l51, l52, l53, l54, l55, l56, l57, l58, l59, l60, l61, l62, l63, l64, l65, l66, l67, l68, l69, l70, l71, l72, l73, l74, l75, l76, l77, l78, l79, l80, l81, l82, l83, l84, l85, l86, l87, l88, l89, l90, l91, l92, l93, l94, l95, l96, l97, l98, l99, l100, l101, l102, l103, l104, l105, l106, l107, l108, l109, l110, l111, l112, l113, l114, l115, l116, l117, l118, l119, l120, l121, l122, l123, l124, l125, l126, l127, l128, l129, l130, l131, l196, l200, l245, l255, l368, l369, l370, l382, l383, l384, l385, l386, l387, l388, l394, l395, l400, l401, l617, l738, l800, l999, l1000, l1500, l1600, l2400, l3195, l5920, l5995, l11990, l99999, l1000000, l100000000, l1000000000, l2000000000, l2147483647]
    rw [if_pos (by omega)]
    have e : shr (I (m + 2)) (92 * t + (row + 1)) (92 * t + (row + 0 + 1)) = I (m + 2) := by
      funext i
      unfold shr
      rw [if_neg (by omega)]
    rw [e, up1_self]
  | succ k ih =>
    intro fuel I hk hf
    obtain ⟨f, rfl⟩ : ∃ f, fuel = f + 1 := ⟨fuel - 1, by omega⟩
    simp (disch := first | omega | assumption) only [X7_comesFirst_c16, X7_at, mgI, mgL, mpI, mpZ0, mpZ1, mpL, mcT, rZ0, rZ1, mR1, mA1, mS1, mR2, mA2, mS2, mR3, mA3, mS3, mR4, mA4, mS4, mR5, mA5, mS5, mR6, mA6, mS6, mR7, mA7, mS7, mR8, mA8, mS8, mR10, mA10, mS10, mR14, mA14, mS14, mR15, mA15, mS15, mR18, mA18, mS18, mR19, mA19, mS19, mR20, mA20, mS20, mR29, mA29, mS29, mR32, mA32, mS32, mR33, mA33, mS33, mR34, mA34, mS34, mR35, mA35, mS35, mR37, mA37, mS37, mR38, mA38, mS38, mR39, mA39, mS39, mR40, mA40, mS40, mR41, mA41, mS41, mR43, mA43, mS43, mR46, mA46, mS46, mR47, mA47, mS47, mR48, mA48, mS48, mR49, mA49, mS49, mR50, mA50, mS50, mR51, mA51, mS51, mR52, mA52, mS52, mR53, mA53, mS53, mR60, mA60, mS60, mR61, mA61, mS61, Option.bind_some, ofN_add, ofN_mul, ofN_sub, ofN_lt, ofN_le, ofN_inj, ofN_dec, ofN_lt_neg, neg_lt_ofN, ofN_le_neg, neg_le_ofN, ofN_eq_neg, neg_eq_ofN, ofN_irm, ofN_div, l0, l1, l2, l3, l4, l5, l6, l7, l8, l9, l10, l11, l12, l13, l14, l15, l16, l17, l18, l19, l20, l21, l22, l23, l24, l25, l26, l27, l28, l29, l30, l31, l32, l33, l34, l35, l36, l37, l38, l39, l40, l41, l42, l43, l44, l45, l46, l47, l48, l49, l50, l51, l52, l53, l54, l55, l56, l57, l58, l59, l60, l61, l62, l63, l64, l65, l66, l67, l68, l69, l70, l71, l72, l73, l74, l75, l76, l77, l78, l79, l80, l81, l82, l83, l84, l85, l86, l87, l88, l89, l90, l91, l92, l93, l94, l95, l96, l97, l98, l99, l100, l101, l102, l103, l104, l105, l106, l107, l108, l109, l110, l111, l112, l113, l114, l115, l116, l117, l118, l119, l120, l121, l122, l123, l124, l125, l126, l127, l128, l129, l130, l131, l196, l200, l245, l255, l368, l369, l370, l382, l383, l384, l385, l386, l387, l388, l394, l395, l400, l401, l617, l738, l800, l999, l1000, l1500, l1600, l2400, l3195, l5920, l5995, l11990, l99999, l1000000, l100000000, l1000000000, l2000000000, l2147483647]
    rw [if_neg (by omega), show k + 1 - 1 = k by omega, ih f _ (by omega) (by omega), up1_up1, up1_eq]
    congr 3
    funext i
    unfold shr ups
    grind
/-- one tenant's ints set: in all -/
theorem sv_at {K B : Nat → Int32} {t j : Nat} (h : j < 92) : sv K t B (92 * t + j) = B j := by
  unfold sv
  rw [if_pos (by omega), Nat.add_sub_cancel_left]
theorem sv_ne {K B : Nat → Int32} {t i : Nat} (h : i < 92 * t ∨ 92 * t + 92 ≤ i) : sv K t B i = K i := by
  unfold sv
  rw [if_neg (by omega)]
theorem sv_sv {K B B' : Nat → Int32} {t : Nat} : sv (sv K t B) t B' = sv K t B' := by
  funext i
  unfold sv
  split <;> rfl
theorem vw_sv {K B : Nat → Int32} {t : Nat} (h : Cut B) : vw (sv K t B) t = B := by
  funext j
  unfold vw
  split
  · next hj => exact sv_at hj
  · next hj => exact (h j (by omega)).symm
theorem vw_sv_ne {K B : Nat → Int32} {t u : Nat} (hu : u ≠ t) : vw (sv K t B) u = vw K u := by
  funext j
  unfold vw
  split
  · exact sv_ne (by omega)
  · rfl
theorem sv_hi {K B : Nat → Int32} {t i : Nat} (ht : t < 4) (h : 368 ≤ i) : sv K t B i = K i := sv_ne (by omega)
theorem sv_ext {K B B' : Nat → Int32} {t : Nat} (h : ∀ j, j < 92 → B j = B' j) : sv K t B = sv K t B' := by
  funext i
  unfold sv
  split
  · next hi => exact h _ (by omega)
  · rfl
theorem sv_self {K : Nat → Int32} {t : Nat} : sv K t (vw K t) = K := by
  funext i
  unfold sv
  split
  · next hi => rw [vw_at (by omega), show 92 * t + (i - 92 * t) = i by omega]
  · rfl
theorem sv_ups {K : Nat → Int32} {t j : Nat} {v : Int32} (h : j < 92) : ups K (92 * t + j) v = sv K t (ups (vw K t) j v) := by
  funext i
  unfold sv vw ups
  grind
theorem M_goesOut (h : MSh m σ) {t row n p : Nat} (ht : t < 4) (hn : vw (I (m + 2)) t row = ofN n) (hb : row + n < 92) (hp : p ≤ n) (hn1 : 1 ≤ n) :
    X7_goesOut (some m) (ofN t) (ofN row) (ofN p) (hw σ I L) = some (hw σ (up1 I (m + 2) (sv (I (m + 2)) t (outB (vw (I (m + 2)) t) row p))) L) := by
  have hn' : I (m + 2) (92 * t + row) = ofN n := (vw_at (by omega)).symm.trans hn
  simp (disch := first | omega | assumption) only [X7_goesOut, X7_at, mgI, mgL, mpI, mpZ0, mpZ1, mpL, mcT, rZ0, rZ1, mR1, mA1, mS1, mR2, mA2, mS2, mR3, mA3, mS3, mR4, mA4, mS4, mR5, mA5, mS5, mR6, mA6, mS6, mR7, mA7, mS7, mR8, mA8, mS8, mR10, mA10, mS10, mR14, mA14, mS14, mR15, mA15, mS15, mR18, mA18, mS18, mR19, mA19, mS19, mR20, mA20, mS20, mR29, mA29, mS29, mR32, mA32, mS32, mR33, mA33, mS33, mR34, mA34, mS34, mR35, mA35, mS35, mR37, mA37, mS37, mR38, mA38, mS38, mR39, mA39, mS39, mR40, mA40, mS40, mR41, mA41, mS41, mR43, mA43, mS43, mR46, mA46, mS46, mR47, mA47, mS47, mR48, mA48, mS48, mR49, mA49, mS49, mR50, mA50, mS50, mR51, mA51, mS51, mR52, mA52, mS52, mR53, mA53, mS53, mR60, mA60, mS60, mR61, mA61, mS61, Option.bind_some, ofN_add, ofN_mul, ofN_sub, ofN_lt, ofN_le, ofN_inj, ofN_dec, ofN_lt_neg, neg_lt_ofN, ofN_le_neg, neg_le_ofN, ofN_eq_neg, neg_eq_ofN, ofN_irm, ofN_div, l0, l1, l2, l3, l4, l5, l6, l7, l8, l9, l10, l11, l12, l13, l14, l15, l16, l17, l18, l19, l20, l21, l22, l23, l24, l25, l26, l27, l28, l29, l30, l31, l32, l33, l34, l35, l36, l37, l38, l39, l40, l41, l42, l43, l44, l45, l46, l47, l48, l49, l50, l51, l52, l53, l54, l55, l56, l57, l58, l59, l60, l61, l62, l63, l64, l65, l66, l67, l68, l69, l70, l71, l72, l73, l74, l75, l76, l77, l78, l79, l80, l81, l82, l83, l84, l85, l86, l87, l88, l89, l90, l91, l92, l93, l94, l95, l96, l97, l98, l99, l100, l101, l102, l103, l104, l105, l106, l107, l108, l109, l110, l111, l112, l113, l114, l115, l116, l117, l118, l119, l120, l121, l122, l123, l124, l125, l126, l127, l128, l129, l130, l131, l196, l200, l245, l255, l368, l369, l370, l382, l383, l384, l385, l386, l387, l388, l394, l395, l400, l401, l617, l738, l800, l999, l1000, l1500, l1600, l2400, l3195, l5920, l5995, l11990, l99999, l1000000, l100000000, l1000000000, l2000000000, l2147483647]
  rw [hn', M_goesF h (by omega) (n - p) FUEL p I (by omega) (by unfold FUEL; omega)]
  simp (disch := first | omega | assumption) only [mgI, mgL, mpI, mpZ0, mpZ1, mpL, mcT, rZ0, rZ1, mR1, mA1, mS1, mR2, mA2, mS2, mR3, mA3, mS3, mR4, mA4, mS4, mR5, mA5, mS5, mR6, mA6, mS6, mR7, mA7, mS7, mR8, mA8, mS8, mR10, mA10, mS10, mR14, mA14, mS14, mR15, mA15, mS15, mR18, mA18, mS18, mR19, mA19, mS19, mR20, mA20, mS20, mR29, mA29, mS29, mR32, mA32, mS32, mR33, mA33, mS33, mR34, mA34, mS34, mR35, mA35, mS35, mR37, mA37, mS37, mR38, mA38, mS38, mR39, mA39, mS39, mR40, mA40, mS40, mR41, mA41, mS41, mR43, mA43, mS43, mR46, mA46, mS46, mR47, mA47, mS47, mR48, mA48, mS48, mR49, mA49, mS49, mR50, mA50, mS50, mR51, mA51, mS51, mR52, mA52, mS52, mR53, mA53, mS53, mR60, mA60, mS60, mR61, mA61, mS61, Option.bind_some, ofN_add, ofN_mul, ofN_sub, ofN_lt, ofN_le, ofN_inj, ofN_dec, ofN_lt_neg, neg_lt_ofN, ofN_le_neg, neg_le_ofN, ofN_eq_neg, neg_eq_ofN, ofN_irm, ofN_div, l0, l1, l2, l3, l4, l5, l6, l7, l8, l9, l10, l11, l12, l13, l14, l15, l16, l17, l18, l19, l20, l21, l22, l23, l24, l25, l26, l27, l28, l29, l30, l31, l32, l33, l34, l35, l36, l37, l38, l39, l40, l41, l42, l43, l44, l45, l46, l47, l48, l49, l50, l51, l52, l53, l54, l55, l56, l57, l58, l59, l60, l61, l62, l63, l64, l65, l66, l67, l68, l69, l70, l71, l72, l73, l74, l75, l76, l77, l78, l79, l80, l81, l82, l83, l84, l85, l86, l87, l88, l89, l90, l91, l92, l93, l94, l95, l96, l97, l98, l99, l100, l101, l102, l103, l104, l105, l106, l107, l108, l109, l110, l111, l112, l113, l114, l115, l116, l117, l118, l119, l120, l121, l122, l123, l124, l125, l126, l127, l128, l129, l130, l131, l196, l200, l245, l255, l368, l369, l370, l382, l383, l384, l385, l386, l387, l388, l394, l395, l400, l401, l617, l738, l800, l999, l1000, l1500, l1600, l2400, l3195, l5920, l5995, l11990, l99999, l1000000, l100000000, l1000000000, l2000000000, l2147483647, up1_eq, up1_up1]
  congr 4
  unfold outB
  rw [hn, nat32_ofN (by omega)]
  funext i
  unfold sv vw shl ups
  rw [ofN_sub (by omega)]
  grind
theorem M_comesFirst (h : MSh m σ) {t row n : Nat} {key : Int32} (ht : t < 4) (hn : vw (I (m + 2)) t row = ofN n) (hb : row + n + 1 < 92) :
    X7_comesFirst (some m) (ofN t) (ofN row) key (hw σ I L) = some (hw σ (up1 I (m + 2) (sv (I (m + 2)) t (firstB (vw (I (m + 2)) t) row key))) L) := by
  have hn' : I (m + 2) (92 * t + row) = ofN n := (vw_at (by omega)).symm.trans hn
  simp (disch := first | omega | assumption) only [X7_comesFirst, X7_at, mgI, mgL, mpI, mpZ0, mpZ1, mpL, mcT, rZ0, rZ1, mR1, mA1, mS1, mR2, mA2, mS2, mR3, mA3, mS3, mR4, mA4, mS4, mR5, mA5, mS5, mR6, mA6, mS6, mR7, mA7, mS7, mR8, mA8, mS8, mR10, mA10, mS10, mR14, mA14, mS14, mR15, mA15, mS15, mR18, mA18, mS18, mR19, mA19, mS19, mR20, mA20, mS20, mR29, mA29, mS29, mR32, mA32, mS32, mR33, mA33, mS33, mR34, mA34, mS34, mR35, mA35, mS35, mR37, mA37, mS37, mR38, mA38, mS38, mR39, mA39, mS39, mR40, mA40, mS40, mR41, mA41, mS41, mR43, mA43, mS43, mR46, mA46, mS46, mR47, mA47, mS47, mR48, mA48, mS48, mR49, mA49, mS49, mR50, mA50, mS50, mR51, mA51, mS51, mR52, mA52, mS52, mR53, mA53, mS53, mR60, mA60, mS60, mR61, mA61, mS61, Option.bind_some, ofN_add, ofN_mul, ofN_sub, ofN_lt, ofN_le, ofN_inj, ofN_dec, ofN_lt_neg, neg_lt_ofN, ofN_le_neg, neg_le_ofN, ofN_eq_neg, neg_eq_ofN, ofN_irm, ofN_div, l0, l1, l2, l3, l4, l5, l6, l7, l8, l9, l10, l11, l12, l13, l14, l15, l16, l17, l18, l19, l20, l21, l22, l23, l24, l25, l26, l27, l28, l29, l30, l31, l32, l33, l34, l35, l36, l37, l38, l39, l40, l41, l42, l43, l44, l45, l46, l47, l48, l49, l50, l51, l52, l53, l54, l55, l56, l57, l58, l59, l60, l61, l62, l63, l64, l65, l66, l67, l68, l69, l70, l71, l72, l73, l74, l75, l76, l77, l78, l79, l80, l81, l82, l83, l84, l85, l86, l87, l88, l89, l90, l91, l92, l93, l94, l95, l96, l97, l98, l99, l100, l101, l102, l103, l104, l105, l106, l107, l108, l109, l110, l111, l112, l113, l114, l115, l116, l117, l118, l119, l120, l121, l122, l123, l124, l125, l126, l127, l128, l129, l130, l131, l196, l200, l245, l255, l368, l369, l370, l382, l383, l384, l385, l386, l387, l388, l394, l395, l400, l401, l617, l738, l800, l999, l1000, l1500, l1600, l2400, l3195, l5920, l5995, l11990, l99999, l1000000, l100000000, l1000000000, l2000000000, l2147483647]
  rw [hn', M_firstF h (n := n) (by omega) n FUEL I (Nat.le_refl _) (by unfold FUEL; omega)]
  simp (disch := first | omega | assumption) only [mgI, mgL, mpI, mpZ0, mpZ1, mpL, mcT, rZ0, rZ1, mR1, mA1, mS1, mR2, mA2, mS2, mR3, mA3, mS3, mR4, mA4, mS4, mR5, mA5, mS5, mR6, mA6, mS6, mR7, mA7, mS7, mR8, mA8, mS8, mR10, mA10, mS10, mR14, mA14, mS14, mR15, mA15, mS15, mR18, mA18, mS18, mR19, mA19, mS19, mR20, mA20, mS20, mR29, mA29, mS29, mR32, mA32, mS32, mR33, mA33, mS33, mR34, mA34, mS34, mR35, mA35, mS35, mR37, mA37, mS37, mR38, mA38, mS38, mR39, mA39, mS39, mR40, mA40, mS40, mR41, mA41, mS41, mR43, mA43, mS43, mR46, mA46, mS46, mR47, mA47, mS47, mR48, mA48, mS48, mR49, mA49, mS49, mR50, mA50, mS50, mR51, mA51, mS51, mR52, mA52, mS52, mR53, mA53, mS53, mR60, mA60, mS60, mR61, mA61, mS61, Option.bind_some, ofN_add, ofN_mul, ofN_sub, ofN_lt, ofN_le, ofN_inj, ofN_dec, ofN_lt_neg, neg_lt_ofN, ofN_le_neg, neg_le_ofN, ofN_eq_neg, neg_eq_ofN, ofN_irm, ofN_div, l0, l1, l2, l3, l4, l5, l6, l7, l8, l9, l10, l11, l12, l13, l14, l15, l16, l17, l18, l19, l20, l21, l22, l23, l24, l25, l26, l27, l28, l29, l30, l31, l32, l33, l34, l35, l36, l37, l38, l39, l40, l41, l42, l43, l44, l45, l46, l47, l48, l49, l50, l51, l52, l53, l54, l55, l56, l57, l58, l59, l60, l61, l62, l63, l64, l65, l66, l67, l68, l69, l70, l71, l72, l73, l74, l75, l76, l77, l78, l79, l80, l81, l82, l83, l84, l85, l86, l87, l88, l89, l90, l91, l92, l93, l94, l95, l96, l97, l98, l99, l100, l101, l102, l103, l104, l105, l106, l107, l108, l109, l110, l111, l112, l113, l114, l115, l116, l117, l118, l119, l120, l121, l122, l123, l124, l125, l126, l127, l128, l129, l130, l131, l196, l200, l245, l255, l368, l369, l370, l382, l383, l384, l385, l386, l387, l388, l394, l395, l400, l401, l617, l738, l800, l999, l1000, l1500, l1600, l2400, l3195, l5920, l5995, l11990, l99999, l1000000, l100000000, l1000000000, l2000000000, l2147483647, up1_eq, up1_up1]
  congr 4
  unfold firstB
  rw [hn, nat32_ofN (by omega)]
  funext i
  unfold sv vw shr ups
  rw [ofN_add]
  grind
theorem M_comesLast (h : MSh m σ) {t row n : Nat} {key : Int32} (ht : t < 4) (hn : vw (I (m + 2)) t row = ofN n) (hb : row + n + 1 < 92) :
    X7_comesLast (some m) (ofN t) (ofN row) key (hw σ I L) = some (hw σ (up1 I (m + 2) (sv (I (m + 2)) t (lastB (vw (I (m + 2)) t) row key))) L) := by
  have hn' : I (m + 2) (92 * t + row) = ofN n := (vw_at (by omega)).symm.trans hn
  simp (disch := first | omega | assumption) only [X7_comesLast, X7_at, mgI, mgL, mpI, mpZ0, mpZ1, mpL, mcT, rZ0, rZ1, mR1, mA1, mS1, mR2, mA2, mS2, mR3, mA3, mS3, mR4, mA4, mS4, mR5, mA5, mS5, mR6, mA6, mS6, mR7, mA7, mS7, mR8, mA8, mS8, mR10, mA10, mS10, mR14, mA14, mS14, mR15, mA15, mS15, mR18, mA18, mS18, mR19, mA19, mS19, mR20, mA20, mS20, mR29, mA29, mS29, mR32, mA32, mS32, mR33, mA33, mS33, mR34, mA34, mS34, mR35, mA35, mS35, mR37, mA37, mS37, mR38, mA38, mS38, mR39, mA39, mS39, mR40, mA40, mS40, mR41, mA41, mS41, mR43, mA43, mS43, mR46, mA46, mS46, mR47, mA47, mS47, mR48, mA48, mS48, mR49, mA49, mS49, mR50, mA50, mS50, mR51, mA51, mS51, mR52, mA52, mS52, mR53, mA53, mS53, mR60, mA60, mS60, mR61, mA61, mS61, Option.bind_some, ofN_add, ofN_mul, ofN_sub, ofN_lt, ofN_le, ofN_inj, ofN_dec, ofN_lt_neg, neg_lt_ofN, ofN_le_neg, neg_le_ofN, ofN_eq_neg, neg_eq_ofN, ofN_irm, ofN_div, l0, l1, l2, l3, l4, l5, l6, l7, l8, l9, l10, l11, l12, l13, l14, l15, l16, l17, l18, l19, l20, l21, l22, l23, l24, l25, l26, l27, l28, l29, l30, l31, l32, l33, l34, l35, l36, l37, l38, l39, l40, l41, l42, l43, l44, l45, l46, l47, l48, l49, l50, l51, l52, l53, l54, l55, l56, l57, l58, l59, l60, l61, l62, l63, l64, l65, l66, l67, l68, l69, l70, l71, l72, l73, l74, l75, l76, l77, l78, l79, l80, l81, l82, l83, l84, l85, l86, l87, l88, l89, l90, l91, l92, l93, l94, l95, l96, l97, l98, l99, l100, l101, l102, l103, l104, l105, l106, l107, l108, l109, l110, l111, l112, l113, l114, l115, l116, l117, l118, l119, l120, l121, l122, l123, l124, l125, l126, l127, l128, l129, l130, l131, l196, l200, l245, l255, l368, l369, l370, l382, l383, l384, l385, l386, l387, l388, l394, l395, l400, l401, l617, l738, l800, l999, l1000, l1500, l1600, l2400, l3195, l5920, l5995, l11990, l99999, l1000000, l100000000, l1000000000, l2000000000, l2147483647, hn', up1_eq, up1_up1]
  congr 4
  unfold lastB
  rw [hn, nat32_ofN (by omega)]
  funext i
  unfold sv vw ups
  rw [ofN_add]
  grind
theorem vwL_svL {P Q : Nat → Int64} {t : Nat} (h : ∀ j, 25 ≤ j → Q j = 0) : vwL (svL P t Q) t = Q := by
  funext j
  unfold vwL svL
  split
  · next hj => rw [if_pos (by omega), Nat.add_sub_cancel_left]
  · next hj => exact (h j (by omega)).symm
theorem vwL_svL_ne {P Q : Nat → Int64} {t u : Nat} (hu : u ≠ t) : vwL (svL P t Q) u = vwL P u := by
  funext j
  unfold vwL svL
  split
  · rw [if_neg (by omega)]
  · rfl
theorem svL_ups {P : Nat → Int64} {t j : Nat} {v : Int64} (h : j < 25) : ups P (25 * t + j) v = svL P t (ups (vwL P t) j v) := by
  funext i
  unfold svL vwL ups
  grind
theorem svL_svL {P Q Q' : Nat → Int64} {t : Nat} : svL (svL P t Q) t Q' = svL P t Q' := by
  funext i
  unfold svL
  split <;> rfl
end ROWS
