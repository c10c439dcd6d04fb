set_option maxRecDepth 100000
/-! THE MODEL's READS -/
theorem plcF_le {B : Nat → Int32} {row : Nat} {key : Int32} : ∀ (r k : Nat), plcF B row key r k < k + r ∨ plcF B row key r k = 0
  | 0, k => Or.inr rfl
  | r + 1, k => by
    unfold plcF
    split
    · exact Or.inl (by omega)
    · have := plcF_le (B := B) (row := row) (key := key) r (k + 1)
      omega
theorem plcB_le {B : Nat → Int32} {row n : Nat} {key : Int32} (hn : B row = ofN n) (hb : n < 2147483648) : plcB B row key ≤ n := by
  unfold plcB
  rw [hn, nat32_ofN hb]
  have := plcF_le (B := B) (row := row) (key := key) n 1
  omega
theorem toL_ne {l : Nat} (h : 1 ≤ l) (h2 : l < 2147483648) : ¬ (ofN l).toInt64 = 0 := by
  intro e
  have := congrArg Int64.toInt e
  rw [Int32.toInt_toInt64, ofN_toInt h2] at this
  simp at this
  omega
theorem ofN_ne0 {l : Nat} (h : 1 ≤ l) (h2 : l < 2147483648) : ¬ ofN l = 0 := by
  intro e
  have e2 : ofN l = ofN 0 := e
  rw [ofN_inj h2 (by omega)] at e2
  omega
def farN (B : Nat → Int32) (key : Int32) : Nat := if plcB B 50 key * 1000 / nat32 (B 58) ≤ 24 then plcB B 50 key * 1000 / nat32 (B 58) else 0
def sampQ (Q : Nat → Int64) (B : Nat → Int32) (key cost : Int32) : Nat → Int64 := ups Q (farN B key) (Q (farN B key) + 1000000 * cost.toInt64 / (B 58).toInt64)
def sampT (B : Nat → Int32) (key s : Int32) : Nat → Int32 := if firstB B 50 key 50 ≤ ofN 6 then firstB B 50 key else thinB (firstB B 50 key) s
def sampB (B : Nat → Int32) (key s : Int32) : Nat → Int32 := sampT (if 0 < plcB B 50 key then outB B 50 (plcB B 50 key) else B) key s
def rd5B (B : Nat → Int32) (key s : Int32) : Nat → Int32 := if lastB B 59 key 58 ≤ hs s key then lastB B 59 key else sampB (lastB B 59 key) key s
def rd5Q (Q : Nat → Int64) (B : Nat → Int32) (key c s : Int32) : Nat → Int64 := if lastB B 59 key 58 ≤ hs s key then Q else sampQ Q (lastB B 59 key) key c
def rd4 (B : Nat → Int32) (key : Int32) : Nat → Int32 := if firstB B 0 key 59 = ofN 32 then outB (firstB B 0 key) 59 1 else firstB B 0 key
def rd2 (B : Nat → Int32) (p : Nat) : Nat → Int32 := if 0 < p then outB B 0 p else if B 0 = ofN 24 then outB B 0 24 else B
def rd1 (B : Nat → Int32) (key c : Int32) : Nat → Int32 := ups B (25 + plcB B 0 key) (B (25 + plcB B 0 key) + c)
def readB (B : Nat → Int32) (key c s : Int32) (bar : Bool) : Nat → Int32 := if bar then ups B 25 (B 25 + c) else rd5B (rd4 (rd2 (rd1 B key c) (plcB B 0 key)) key) key s
def readQ (Q : Nat → Int64) (B : Nat → Int32) (key c s : Int32) (bar : Bool) : Nat → Int64 := if bar then Q else rd5Q Q (rd4 (rd2 (rd1 B key c) (plcB B 0 key)) key) key c s
section MREADS
variable {m : Nat} {σ : Hp} {I : IM} {L : LM}
theorem firstB_n {B : Nat → Int32} {row n : Nat} {key : Int32} (hn : B row = ofN n) : firstB B row key row = ofN (n + 1) := by
  unfold firstB
  rw [ups_eq, hn, ofN_add]
theorem outB_n {B : Nat → Int32} {row n p : Nat} (hn : B row = ofN n) (h1 : 1 ≤ n) : outB B row p row = ofN (n - 1) := by
  unfold outB
  rw [ups_eq, hn, ofN_sub h1]
theorem M_c84 (h : MSh m σ) {t n : Nat} {key : Int32} (ht : t < 4) (hn : vw (I (m + 2)) t 50 = ofN n) (hb : n ≤ 6) :
    X7_samples_c84 (some m) (ofN t) key (hw σ I L) = some (hw σ (up1 I (m + 2) (sv (I (m + 2)) t (sampT (vw (I (m + 2)) t) key (I (m + 2) 384)))) L) := by
  have c1 : Cut (firstB (vw (I (m + 2)) t) 50 key) := cut_first cut_vw hn (by omega)
  have e1 : firstB (vw (I (m + 2)) t) 50 key 50 = ofN (n + 1) := firstB_n hn
  simp (disch := first | omega | assumption) only [X7_samples_c84, X7_at, M_comesFirst h ht hn (by omega), mgI, mgL, mpI, mpZ0, mpZ1, mpL, mcT, rZ0, rZ1, mR1, mA1, mS1, mR2, mA2, mS2, mR3, mA3, mS3, mR4, mA4, mS4, mR5, mA5, mS5, mR6, mA6, mS6, mR7, mA7, mS7, mR8, mA8, mS8, mR10, mA10, mS10, mR14, mA14, mS14, mR15, mA15, mS15, mR18, mA18, mS18, mR19, mA19, mS19, mR20, mA20, mS20, mR29, mA29, mS29, mR32, mA32, mS32, mR33, mA33, mS33, mR34, mA34, mS34, mR35, mA35, mS35, mR37, mA37, mS37, mR38, mA38, mS38, mR39, mA39, mS39, mR40, mA40, mS40, mR41, mA41, mS41, mR43, mA43, mS43, mR46, mA46, mS46, mR47, mA47, mS47, mR48, mA48, mS48, mR49, mA49, mS49, mR50, mA50, mS50, mR51, mA51, mS51, mR52, mA52, mS52, mR53, mA53, mS53, mR60, mA60, mS60, mR61, mA61, mS61, Option.bind_some, ofN_add, ofN_mul, ofN_sub, ofN_lt, ofN_le, ofN_inj, ofN_dec, ofN_lt_neg, neg_lt_ofN, ofN_le_neg, neg_le_ofN, ofN_eq_neg, neg_eq_ofN, ofN_irm, ofN_div, l0, l1, l2, l3, l4, l5, l6, l7, l8, l9, l10, l11, l12, l13, l14, l15, l16, l17, l18, l19, l20, l21, l22, l23, l24, l25, l26, l27, l28, l29, l30, l31, l32, l33, l34, l35, l36, l37, l38, l39, l40, l41, l42, l43, l44, l45, l46, l47, l48, l49, l50, l51, l52, l53, l54, l55, l56, l57, l58, l59, l60, l61, l62, l63, l64, l65, l66, l67, l68, l69, l70, l71, l72, l73, l74, l75, l76, l77, l78, l79, l80, l81, l82, l83, l84, l85, l86, l87, l88, l89, l90, l91, l92, l93, l94, l95, l96, l97, l98, l99, l100, l101, l102, l103, l104, l105, l106, l107, l108, l109, l110, l111, l112, l113, l114, l115, l116, l117, l118, l119, l120, l121, l122, l123, l124, l125, l126, l127, l128, l129, l130, l131, l196, l200, l245, l255, l368, l369, l370, l382, l383, l384, l385, l386, l387, l388, l394, l395, l400, l401, l617, l738, l800, l999, l1000, l1500, l1600, l2400, l3195, l5920, l5995, l11990, l99999, l1000000, l100000000, l1000000000, l2000000000, l2147483647, up1_eq]
  rw [sv_at (by omega), e1]
  unfold sampT
  rw [e1]
  by_cases h6 : ofN (n + 1) ≤ ofN 6
  · rw [if_pos h6, if_pos h6]
  · rw [if_neg h6, if_neg h6, M_thins h ht (n := n + 1) (by rw [up1_eq, vw_sv c1]; exact ⟨e1, by omega⟩)]
    rw [Option.bind_some, up1_up1, up1_eq, sv_sv, vw_sv c1, sv_hi ht (by omega)]
theorem M_samples (h : MSh m σ) {t n l : Nat} {key c : Int32} (ht : t < 4) (hn : vw (I (m + 2)) t 50 = ofN n) (hb : n ≤ 6) (hl : vw (I (m + 2)) t 58 = ofN l) (h1 : 1 ≤ l) (h2 : l ≤ 1000) :
    X7_samples (some m) (ofN t) key c (hw σ I L) = some (hw σ (up1 I (m + 2) (sv (I (m + 2)) t (sampB (vw (I (m + 2)) t) key (I (m + 2) 384)))) (up1 L (m + 3) (svL (L (m + 3)) t (sampQ (vwL (L (m + 3)) t) (vw (I (m + 2)) t) key c)))) := by
  have hl' : I (m + 2) (92 * t + 58) = ofN l := (vw_at (by omega)).symm.trans hl
  have hp := plcB_le (key := key) hn (by omega)
  have hf : farN (vw (I (m + 2)) t) key < 25 := by unfold farN; split <;> omega
  have eQ : up1 L (m + 3) (ups (L (m + 3)) (25 * t + farN (vw (I (m + 2)) t) key) (L (m + 3) (25 * t + farN (vw (I (m + 2)) t) key) + 1000000 * c.toInt64 / (ofN l).toInt64)) = up1 L (m + 3) (svL (L (m + 3)) t (sampQ (vwL (L (m + 3)) t) (vw (I (m + 2)) t) key c)) := by
    rw [svL_ups hf]
    unfold sampQ
    rw [hl, vwL_at hf]
  have hd : plcB (vw (I (m + 2)) t) 50 key * 1000 / l ≤ 6000 := Nat.le_trans (Nat.div_le_self _ _) (by omega)
  have key1 : ∀ fr, fr = farN (vw (I (m + 2)) t) key → X7_samples_c55 (some m) (ofN t) key c (ofN l) (ofN (plcB (vw (I (m + 2)) t) 50 key)) (some (m + 3)) (ofN (25 * t)) (ofN fr) (hw σ I L) = some (hw σ (up1 I (m + 2) (sv (I (m + 2)) t (sampB (vw (I (m + 2)) t) key (I (m + 2) 384)))) (up1 L (m + 3) (svL (L (m + 3)) t (sampQ (vwL (L (m + 3)) t) (vw (I (m + 2)) t) key c)))) := by
    intro fr hfr
    subst hfr
    simp (disch := first | omega | assumption) only [X7_samples_c55, mgI, mgL, mpI, mpZ0, mpZ1, mpL, mcT, rZ0, rZ1, mR1, mA1, mS1, mR2, mA2, mS2, mR3, mA3, mS3, mR4, mA4, mS4, mR5, mA5, mS5, mR6, mA6, mS6, mR7, mA7, mS7, mR8, mA8, mS8, mR10, mA10, mS10, mR14, mA14, mS14, mR15, mA15, mS15, mR18, mA18, mS18, mR19, mA19, mS19, mR20, mA20, mS20, mR29, mA29, mS29, mR32, mA32, mS32, mR33, mA33, mS33, mR34, mA34, mS34, mR35, mA35, mS35, mR37, mA37, mS37, mR38, mA38, mS38, mR39, mA39, mS39, mR40, mA40, mS40, mR41, mA41, mS41, mR43, mA43, mS43, mR46, mA46, mS46, mR47, mA47, mS47, mR48, mA48, mS48, mR49, mA49, mS49, mR50, mA50, mS50, mR51, mA51, mS51, mR52, mA52, mS52, mR53, mA53, mS53, mR60, mA60, mS60, mR61, mA61, mS61, Option.bind_some, ofN_add, ofN_mul, ofN_sub, ofN_lt, ofN_le, ofN_inj, ofN_dec, ofN_lt_neg, neg_lt_ofN, ofN_le_neg, neg_le_ofN, ofN_eq_neg, neg_eq_ofN, ofN_irm, ofN_div, l0, l1, l2, l3, l4, l5, l6, l7, l8, l9, l10, l11, l12, l13, l14, l15, l16, l17, l18, l19, l20, l21, l22, l23, l24, l25, l26, l27, l28, l29, l30, l31, l32, l33, l34, l35, l36, l37, l38, l39, l40, l41, l42, l43, l44, l45, l46, l47, l48, l49, l50, l51, l52, l53, l54, l55, l56, l57, l58, l59, l60, l61, l62, l63, l64, l65, l66, l67, l68, l69, l70, l71, l72, l73, l74, l75, l76, l77, l78, l79, l80, l81, l82, l83, l84, l85, l86, l87, l88, l89, l90, l91, l92, l93, l94, l95, l96, l97, l98, l99, l100, l101, l102, l103, l104, l105, l106, l107, l108, l109, l110, l111, l112, l113, l114, l115, l116, l117, l118, l119, l120, l121, l122, l123, l124, l125, l126, l127, l128, l129, l130, l131, l196, l200, l245, l255, l368, l369, l370, l382, l383, l384, l385, l386, l387, l388, l394, l395, l400, l401, l617, l738, l800, l999, l1000, l1500, l1600, l2400, l3195, l5920, l5995, l11990, l99999, l1000000, l100000000, l1000000000, l2000000000, l2147483647]
    rw [if_neg (toL_ne h1 (by omega)), eQ]
    unfold sampB
    by_cases hz : plcB (vw (I (m + 2)) t) 50 key ≤ 0
    · rw [if_pos hz, if_neg (by omega), M_c84 h ht hn hb]
    · have c1 : Cut (outB (vw (I (m + 2)) t) 50 (plcB (vw (I (m + 2)) t) 50 key)) := cut_out cut_vw hn (by omega)
      rw [if_neg hz, if_pos (by omega), M_goesOut h ht hn (by omega) hp (by omega), Option.bind_some]
      rw [M_c84 h ht (n := n - 1) (by rw [up1_eq, vw_sv c1, outB_n hn (by omega)]) (by omega), up1_up1, up1_eq, sv_sv, vw_sv c1, sv_hi ht (by omega)]
  simp (disch := first | omega | assumption) only [X7_samples, X7_at, hl', M_placeIn h ht hn (by omega), mgI, mgL, mpI, mpZ0, mpZ1, mpL, mcT, rZ0, rZ1, mR1, mA1, mS1, mR2, mA2, mS2, mR3, mA3, mS3, mR4, mA4, mS4, mR5, mA5, mS5, mR6, mA6, mS6, mR7, mA7, mS7, mR8, mA8, mS8, mR10, mA10, mS10, mR14, mA14, mS14, mR15, mA15, mS15, mR18, mA18, mS18, mR19, mA19, mS19, mR20, mA20, mS20, mR29, mA29, mS29, mR32, mA32, mS32, mR33, mA33, mS33, mR34, mA34, mS34, mR35, mA35, mS35, mR37, mA37, mS37, mR38, mA38, mS38, mR39, mA39, mS39, mR40, mA40, mS40, mR41, mA41, mS41, mR43, mA43, mS43, mR46, mA46, mS46, mR47, mA47, mS47, mR48, mA48, mS48, mR49, mA49, mS49, mR50, mA50, mS50, mR51, mA51, mS51, mR52, mA52, mS52, mR53, mA53, mS53, mR60, mA60, mS60, mR61, mA61, mS61, Option.bind_some, ofN_add, ofN_mul, ofN_sub, ofN_lt, ofN_le, ofN_inj, ofN_dec, ofN_lt_neg, neg_lt_ofN, ofN_le_neg, neg_le_ofN, ofN_eq_neg, neg_eq_ofN, ofN_irm, ofN_div, l0, l1, l2, l3, l4, l5, l6, l7, l8, l9, l10, l11, l12, l13, l14, l15, l16, l17, l18, l19, l20, l21, l22, l23, l24, l25, l26, l27, l28, l29, l30, l31, l32, l33, l34, l35, l36, l37, l38, l39, l40, l41, l42, l43, l44, l45, l46, l47, l48, l49, l50, l51, l52, l53, l54, l55, l56, l57, l58, l59, l60, l61, l62, l63, l64, l65, l66, l67, l68, l69, l70, l71, l72, l73, l74, l75, l76, l77, l78, l79, l80, l81, l82, l83, l84, l85, l86, l87, l88, l89, l90, l91, l92, l93, l94, l95, l96, l97, l98, l99, l100, l101, l102, l103, l104, l105, l106, l107, l108, l109, l110, l111, l112, l113, l114, l115, l116, l117, l118, l119, l120, l121, l122, l123, l124, l125, l126, l127, l128, l129, l130, l131, l196, l200, l245, l255, l368, l369, l370, l382, l383, l384, l385, l386, l387, l388, l394, l395, l400, l401, l617, l738, l800, l999, l1000, l1500, l1600, l2400, l3195, l5920, l5995, l11990, l99999, l1000000, l100000000, l1000000000, l2000000000, l2147483647]
  rw [if_neg (by omega)]
  split
  · next h24 =>
    refine key1 _ ?_
    unfold farN
    rw [hl, nat32_ofN (by omega), if_pos h24]
  · next h24 =>
    refine key1 _ ?_
    unfold farN
    rw [hl, nat32_ofN (by omega), if_neg h24]
theorem lastB_58 {B : Nat → Int32} {n : Nat} {key : Int32} (hn : B 59 = ofN n) (hb : n ≤ 31) : lastB B 59 key 58 = B 58 := by
  unfold lastB
  rw [ups_ne (by omega), ups_ne (by rw [hn, nat32_ofN (by omega)]; omega)]
theorem lastB_50 {B : Nat → Int32} {n : Nat} {key : Int32} (hn : B 59 = ofN n) (hb : n ≤ 31) : lastB B 59 key 50 = B 50 := by
  unfold lastB
  rw [ups_ne (by omega), ups_ne (by rw [hn, nat32_ofN (by omega)]; omega)]
theorem M_c129 (h : MSh m σ) {t n l nr : Nat} {key c p : Int32} (ht : t < 4) (hn : vw (I (m + 2)) t 50 = ofN n) (hb : n ≤ 6) (hl : vw (I (m + 2)) t 58 = ofN l) (h1 : 1 ≤ l) (h2 : l ≤ 1000) (hr : vw (I (m + 2)) t 59 = ofN nr) (hr2 : nr ≤ 31) :
    X7_readsKey_c129 (some m) (ofN t) key p c (hw σ I L) = some (p, hw σ (up1 I (m + 2) (sv (I (m + 2)) t (rd5B (vw (I (m + 2)) t) key (I (m + 2) 384)))) (if lastB (vw (I (m + 2)) t) 59 key 58 ≤ hs (I (m + 2) 384) key then L else up1 L (m + 3) (svL (L (m + 3)) t (sampQ (vwL (L (m + 3)) t) (lastB (vw (I (m + 2)) t) 59 key) key c)))) := by
  have c1 : Cut (lastB (vw (I (m + 2)) t) 59 key) := cut_last cut_vw hr (by omega)
  simp (disch := first | omega | assumption) only [X7_readsKey_c129, X7_at, M_comesLast h ht hr (by omega), M_hash, mgI, mgL, mpI, mpZ0, mpZ1, mpL, mcT, rZ0, rZ1, mR1, mA1, mS1, mR2, mA2, mS2, mR3, mA3, mS3, mR4, mA4, mS4, mR5, mA5, mS5, mR6, mA6, mS6, mR7, mA7, mS7, mR8, mA8, mS8, mR10, mA10, mS10, mR14, mA14, mS14, mR15, mA15, mS15, mR18, mA18, mS18, mR19, mA19, mS19, mR20, mA20, mS20, mR29, mA29, mS29, mR32, mA32, mS32, mR33, mA33, mS33, mR34, mA34, mS34, mR35, mA35, mS35, mR37, mA37, mS37, mR38, mA38, mS38, mR39, mA39, mS39, mR40, mA40, mS40, mR41, mA41, mS41, mR43, mA43, mS43, mR46, mA46, mS46, mR47, mA47, mS47, mR48, mA48, mS48, mR49, mA49, mS49, mR50, mA50, mS50, mR51, mA51, mS51, mR52, mA52, mS52, mR53, mA53, mS53, mR60, mA60, mS60, mR61, mA61, mS61, Option.bind_some, ofN_add, ofN_mul, ofN_sub, ofN_lt, ofN_le, ofN_inj, ofN_dec, ofN_lt_neg, neg_lt_ofN, ofN_le_neg, neg_le_ofN, ofN_eq_neg, neg_eq_ofN, ofN_irm, ofN_div, l0, l1, l2, l3, l4, l5, l6, l7, l8, l9, l10, l11, l12, l13, l14, l15, l16, l17, l18, l19, l20, l21, l22, l23, l24, l25, l26, l27, l28, l29, l30, l31, l32, l33, l34, l35, l36, l37, l38, l39, l40, l41, l42, l43, l44, l45, l46, l47, l48, l49, l50, l51, l52, l53, l54, l55, l56, l57, l58, l59, l60, l61, l62, l63, l64, l65, l66, l67, l68, l69, l70, l71, l72, l73, l74, l75, l76, l77, l78, l79, l80, l81, l82, l83, l84, l85, l86, l87, l88, l89, l90, l91, l92, l93, l94, l95, l96, l97, l98, l99, l100, l101, l102, l103, l104, l105, l106, l107, l108, l109, l110, l111, l112, l113, l114, l115, l116, l117, l118, l119, l120, l121, l122, l123, l124, l125, l126, l127, l128, l129, l130, l131, l196, l200, l245, l255, l368, l369, l370, l382, l383, l384, l385, l386, l387, l388, l394, l395, l400, l401, l617, l738, l800, l999, l1000, l1500, l1600, l2400, l3195, l5920, l5995, l11990, l99999, l1000000, l100000000, l1000000000, l2000000000, l2147483647, up1_eq]
  rw [sv_at (by omega), sv_hi ht (by omega)]
  unfold rd5B
  by_cases hx : lastB (vw (I (m + 2)) t) 59 key 58 ≤ hs (I (m + 2) 384) key
  · rw [if_pos hx, if_pos hx, if_pos hx]
  · rw [if_neg hx, if_neg hx, if_neg hx]
    have e5 : vw (up1 I (m + 2) (sv (I (m + 2)) t (lastB (vw (I (m + 2)) t) 59 key)) (m + 2)) t = lastB (vw (I (m + 2)) t) 59 key := by rw [up1_eq, vw_sv c1]
    rw [M_samples h ht (n := n) (l := l) (by rw [e5, lastB_50 hr hr2]; exact hn) hb (by rw [e5, lastB_58 hr hr2]; exact hl) h1 h2, Option.bind_some, e5, up1_up1, up1_eq, sv_sv, sv_hi ht (by omega)]
theorem outB_ne {B : Nat → Int32} {row n p j : Nat} (hn : B row = ofN n) (hb : n < 2147483648) (h1 : j ≠ row) (h2 : j < row + p ∨ row + n ≤ j) : outB B row p j = B j := by
  unfold outB shl
  rw [ups_ne h1, hn, nat32_ofN hb, if_neg (by omega)]
theorem firstB_ne {B : Nat → Int32} {row n j : Nat} {key : Int32} (hn : B row = ofN n) (hb : n < 2147483648) (h2 : j < row ∨ row + n + 1 < j) : firstB B row key j = B j := by
  unfold firstB shr
  rw [ups_ne (by omega), ups_ne (by omega), hn, nat32_ofN hb, if_neg (by omega)]
theorem M_c98 (h : MSh m σ) {t n l nr ns : Nat} {key c p : Int32} (ht : t < 4) (hs0 : vw (I (m + 2)) t 0 = ofN ns) (hs1 : ns ≤ 23) (hn : vw (I (m + 2)) t 50 = ofN n) (hb : n ≤ 6) (hl : vw (I (m + 2)) t 58 = ofN l) (h1 : 1 ≤ l) (h2 : l ≤ 1000) (hr : vw (I (m + 2)) t 59 = ofN nr) (hr2 : nr ≤ 32) :
    X7_readsKey_c98 (some m) (ofN t) key p c (hw σ I L) = some (p, hw σ (up1 I (m + 2) (sv (I (m + 2)) t (rd5B (rd4 (vw (I (m + 2)) t) key) key (I (m + 2) 384)))) (if lastB (rd4 (vw (I (m + 2)) t) key) 59 key 58 ≤ hs (I (m + 2) 384) key then L else up1 L (m + 3) (svL (L (m + 3)) t (sampQ (vwL (L (m + 3)) t) (lastB (rd4 (vw (I (m + 2)) t) key) 59 key) key c)))) := by
  have c1 : Cut (firstB (vw (I (m + 2)) t) 0 key) := cut_first cut_vw hs0 (by omega)
  have f : ∀ j, 25 ≤ j → firstB (vw (I (m + 2)) t) 0 key j = vw (I (m + 2)) t j := fun j hj => firstB_ne hs0 (by omega) (by omega)
  simp (disch := first | omega | assumption) only [X7_readsKey_c98, X7_at, M_comesFirst h ht hs0 (by omega), mgI, mgL, mpI, mpZ0, mpZ1, mpL, mcT, rZ0, rZ1, mR1, mA1, mS1, mR2, mA2, mS2, mR3, mA3, mS3, mR4, mA4, mS4, mR5, mA5, mS5, mR6, mA6, mS6, mR7, mA7, mS7, mR8, mA8, mS8, mR10, mA10, mS10, mR14, mA14, mS14, mR15, mA15, mS15, mR18, mA18, mS18, mR19, mA19, mS19, mR20, mA20, mS20, mR29, mA29, mS29, mR32, mA32, mS32, mR33, mA33, mS33, mR34, mA34, mS34, mR35, mA35, mS35, mR37, mA37, mS37, mR38, mA38, mS38, mR39, mA39, mS39, mR40, mA40, mS40, mR41, mA41, mS41, mR43, mA43, mS43, mR46, mA46, mS46, mR47, mA47, mS47, mR48, mA48, mS48, mR49, mA49, mS49, mR50, mA50, mS50, mR51, mA51, mS51, mR52, mA52, mS52, mR53, mA53, mS53, mR60, mA60, mS60, mR61, mA61, mS61, Option.bind_some, ofN_add, ofN_mul, ofN_sub, ofN_lt, ofN_le, ofN_inj, ofN_dec, ofN_lt_neg, neg_lt_ofN, ofN_le_neg, neg_le_ofN, ofN_eq_neg, neg_eq_ofN, ofN_irm, ofN_div, l0, l1, l2, l3, l4, l5, l6, l7, l8, l9, l10, l11, l12, l13, l14, l15, l16, l17, l18, l19, l20, l21, l22, l23, l24, l25, l26, l27, l28, l29, l30, l31, l32, l33, l34, l35, l36, l37, l38, l39, l40, l41, l42, l43, l44, l45, l46, l47, l48, l49, l50, l51, l52, l53, l54, l55, l56, l57, l58, l59, l60, l61, l62, l63, l64, l65, l66, l67, l68, l69, l70, l71, l72, l73, l74, l75, l76, l77, l78, l79, l80, l81, l82, l83, l84, l85, l86, l87, l88, l89, l90, l91, l92, l93, l94, l95, l96, l97, l98, l99, l100, l101, l102, l103, l104, l105, l106, l107, l108, l109, l110, l111, l112, l113, l114, l115, l116, l117, l118, l119, l120, l121, l122, l123, l124, l125, l126, l127, l128, l129, l130, l131, l196, l200, l245, l255, l368, l369, l370, l382, l383, l384, l385, l386, l387, l388, l394, l395, l400, l401, l617, l738, l800, l999, l1000, l1500, l1600, l2400, l3195, l5920, l5995, l11990, l99999, l1000000, l100000000, l1000000000, l2000000000, l2147483647, up1_eq]
  rw [sv_at (by omega), f 59 (by omega), hr]
  have e5 : vw (up1 I (m + 2) (sv (I (m + 2)) t (firstB (vw (I (m + 2)) t) 0 key)) (m + 2)) t = firstB (vw (I (m + 2)) t) 0 key := by rw [up1_eq, vw_sv c1]
  unfold rd4
  rw [f 59 (by omega), hr]
  by_cases hx : ofN nr = ofN 32
  · have hx' : nr = 32 := by rw [ofN_inj (by omega) (by omega)] at hx; exact hx
    subst hx'
    rw [if_pos hx, if_pos hx]
    have r5 : firstB (vw (I (m + 2)) t) 0 key 59 = ofN 32 := (f 59 (by omega)).trans hr
    have c2 : Cut (outB (firstB (vw (I (m + 2)) t) 0 key) 59 1) := cut_out c1 r5 (by omega)
    rw [M_goesOut h ht (n := 32) (by rw [e5]; exact r5) (by omega) (by omega) (by omega), Option.bind_some, e5, up1_up1, up1_eq, sv_sv]
    have e6 : vw (up1 I (m + 2) (sv (I (m + 2)) t (outB (firstB (vw (I (m + 2)) t) 0 key) 59 1)) (m + 2)) t = outB (firstB (vw (I (m + 2)) t) 0 key) 59 1 := by rw [up1_eq, vw_sv c2]
    rw [M_c129 h ht (n := n) (l := l) (nr := 31) (by rw [e6, outB_ne r5 (by omega) (by omega) (by omega), f 50 (by omega)]; exact hn) hb (by rw [e6, outB_ne r5 (by omega) (by omega) (by omega), f 58 (by omega)]; exact hl) h1 h2 (by rw [e6, outB_n r5 (by omega)]) (by omega), e6, up1_up1, up1_eq, sv_sv, sv_hi ht (by omega)]
  · have hx' : nr ≠ 32 := by rw [ofN_inj (by omega) (by omega)] at hx; exact hx
    rw [if_neg hx, if_neg hx]
    rw [M_c129 h ht (n := n) (l := l) (nr := nr) (by rw [e5, f 50 (by omega)]; exact hn) hb (by rw [e5, f 58 (by omega)]; exact hl) h1 h2 (by rw [e5, f 59 (by omega)]; exact hr) (by omega), e5, up1_up1, up1_eq, sv_sv, sv_hi ht (by omega)]
end MREADS
