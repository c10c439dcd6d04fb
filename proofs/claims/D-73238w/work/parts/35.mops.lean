set_option maxRecDepth 100000
/-! THE MODEL's READS, drops, times. Scr: what evaluation of laws may change -/
def Scr (m : Nat) (I I' : IM) : Prop := (∀ a, a ≠ m → a ≠ m + 15 → I' a = I a) ∧ ∀ k, k < 25 ∨ 28 < k → I' m k = I m k
theorem Scr.rfl {m : Nat} {I : IM} : Scr m I I := ⟨fun _ _ _ => Eq.refl _, fun _ _ => Eq.refl _⟩
theorem Scr.trans {m : Nat} {I I' I'' : IM} (h : Scr m I I') (h' : Scr m I' I'') : Scr m I I'' := ⟨fun a h1 h2 => (h'.1 a h1 h2).trans (h.1 a h1 h2), fun k hk => (h'.2 k hk).trans (h.2 k hk)⟩
theorem Scr.at {m k : Nat} {I I' : IM} (h : Scr m I I') (h1 : 1 ≤ k) (h2 : k ≠ 15) : I' (m + k) = I (m + k) := h.1 _ (by omega) (by omega)
/-- a tenant's numbers -/
def BN (B : Nat → Int32) (n ns nr l : Nat) : Prop := (B 0 = ofN n ∧ n ≤ 24) ∧ (B 50 = ofN ns ∧ ns ≤ 6) ∧ (B 59 = ofN nr ∧ nr ≤ 32) ∧ B 58 = ofN l ∧ 1 ≤ l ∧ l ≤ 1000
theorem svL_self {P : Nat → Int64} {t : Nat} : svL P t (vwL P t) = P := by
  funext i
  unfold svL
  split
  · next hi => rw [vwL_at (by omega), show 25 * t + (i - 25 * t) = i by omega]
  · rfl
def halfF (B : Nat → Int32) (k : Nat) : Nat → Int32 := fun j => if 25 + k ≤ j ∧ j < 50 then B j / ofN 2 else B j
def hsF (B : Nat → Int32) : Nat → Nat → Int32 → Int32
  | 0, _, x => x
  | r + 1, k, x => hsF B r (k + 1) (x + B (25 + k) / ofN 2)
def hallF : Nat → Nat → Int32 → (Nat → Int32) → Int32 × (Nat → Int32)
  | 0, _, x, K => (x, K)
  | r + 1, t, x, K => hallF r (t + 1) (hsF (vw K t) 25 0 x) (sv K t (halfF (vw K t) 0))
def emF : Nat → Nat → (Nat → Int32) → (Nat → Int32)
  | 0, _, K => K
  | r + 1, t, K => emF r (t + 1) (sv K t (ups (ups (vw K t) 50 (ofN 0)) 58 (ofN 1000)))
def fillF {α : Type} (P : Nat → α) (v : α) (k N : Nat) : Nat → α := fun i => if k ≤ i ∧ i < N then v else P i
def dropB (B : Nat → Int32) (key : Int32) : Nat → Int32 := if 0 < plcB (outB B 0 (plcB B 0 key)) 50 key then outB (outB B 0 (plcB B 0 key)) 50 (plcB (outB B 0 (plcB B 0 key)) 50 key) else outB B 0 (plcB B 0 key)
section MOPS
variable {m : Nat} {σ : Hp} {I : IM} {L : LM}
theorem M_readsKey (h : MSh m σ) {t n ns nr l : Nat} {key c : Int32} {bar : Bool} (ht : t < 4) (hB : BN (vw (I (m + 2)) t) n ns nr l)
    (hc : ∀ I', Scr m I I' → ∃ I'', X7_costsFor (some m) (ofN t) key (hw σ I' L) = some (c, hw σ I'' L) ∧ Scr m I' I'')
    (hb : ∀ I', Scr m I I' → ∃ I'', X7_isBarred (some m) (ofN t) key (hw σ I' L) = some ((if bar = true then ofN 1 else ofN 0), hw σ I'' L) ∧ Scr m I' I'') :
    ∃ I', Scr m I I' ∧ X7_readsKey (some m) (ofN t) key (hw σ I L) = some ((if bar = true then ofN 0 else ofN (plcB (vw (I (m + 2)) t) 0 key)), hw σ (up1 I' (m + 2) (sv (I (m + 2)) t (readB (vw (I (m + 2)) t) key c (I (m + 2) 384) bar))) (up1 L (m + 3) (svL (L (m + 3)) t (readQ (vwL (L (m + 3)) t) (vw (I (m + 2)) t) key c (I (m + 2) 384) bar)))) := by
  obtain ⟨⟨n0, n1⟩, ⟨s0, s1⟩, ⟨r0, r1⟩, lm0, l1', l2'⟩ := hB
  obtain ⟨I1, e1, S1⟩ := hc I Scr.rfl
  obtain ⟨I2, e2, S2⟩ := hb I1 S1
  have S := S1.trans S2
  have k2 : I2 (m + 2) = I (m + 2) := S.at (by omega) (by omega)
  refine ⟨I2, S, ?_⟩
  have hp := plcB_le (key := key) n0 (by omega)
  simp (disch := first | omega | assumption) only [X7_readsKey, M_placeIn h ht n0 (by omega), e1, e2, mgI, mgL, mpI, mpZ0, mpZ1, mpL, mcT, rZ0, rZ1, mR1, mA1, mS1, mR2, mA2, mS2, mR3, mA3, mS3, mR4, mA4, mS4, mR5, mA5, mS5, mR6, mA6, mS6, mR7, mA7, mS7, mR8, mA8, mS8, mR10, mA10, mS10, mR14, mA14, mS14, mR15, mA15, mS15, mR18, mA18, mS18, mR19, mA19, mS19, mR20, mA20, mS20, mR29, mA29, mS29, mR32, mA32, mS32, mR33, mA33, mS33, mR34, mA34, mS34, mR35, mA35, mS35, mR37, mA37, mS37, mR38, mA38, mS38, mR39, mA39, mS39, mR40, mA40, mS40, mR41, mA41, mS41, mR43, mA43, mS43, mR46, mA46, mS46, mR47, mA47, mS47, mR48, mA48, mS48, mR49, mA49, mS49, mR50, mA50, mS50, mR51, mA51, mS51, mR52, mA52, mS52, mR53, mA53, mS53, mR60, mA60, mS60, mR61, mA61, mS61, Option.bind_some, ofN_add, ofN_mul, ofN_sub, ofN_lt, ofN_le, ofN_inj, ofN_dec, ofN_lt_neg, neg_lt_ofN, ofN_le_neg, neg_le_ofN, ofN_eq_neg, neg_eq_ofN, ofN_irm, ofN_div, l0, l1, l2, l3, l4, l5, l6, l7, l8, l9, l10, l11, l12, l13, l14, l15, l16, l17, l18, l19, l20, l21, l22, l23, l24, l25, l26, l27, l28, l29, l30, l31, l32, l33, l34, l35, l36, l37, l38, l39, l40, l41, l42, l43, l44, l45, l46, l47, l48, l49, l50, l51, l52, l53, l54, l55, l56, l57, l58, l59, l60, l61, l62, l63, l64, l65, l66, l67, l68, l69, l70, l71, l72, l73, l74, l75, l76, l77, l78, l79, l80, l81, l82, l83, l84, l85, l86, l87, l88, l89, l90, l91, l92, l93, l94, l95, l96, l97, l98, l99, l100, l101, l102, l103, l104, l105, l106, l107, l108, l109, l110, l111, l112, l113, l114, l115, l116, l117, l118, l119, l120, l121, l122, l123, l124, l125, l126, l127, l128, l129, l130, l131, l196, l200, l245, l255, l368, l369, l370, l382, l383, l384, l385, l386, l387, l388, l394, l395, l400, l401, l617, l738, l800, l999, l1000, l1500, l1600, l2400, l3195, l5920, l5995, l11990, l99999, l1000000, l100000000, l1000000000, l2000000000, l2147483647]
  cases bar with
  | true =>
    simp (disch := first | omega | assumption) only [X7_at, readB, readQ, svL_self, up1_self, k2, if_true, mgI, mgL, mpI, mpZ0, mpZ1, mpL, mcT, rZ0, rZ1, mR1, mA1, mS1, mR2, mA2, mS2, mR3, mA3, mS3, mR4, mA4, mS4, mR5, mA5, mS5, mR6, mA6, mS6, mR7, mA7, mS7, mR8, mA8, mS8, mR10, mA10, mS10, mR14, mA14, mS14, mR15, mA15, mS15, mR18, mA18, mS18, mR19, mA19, mS19, mR20, mA20, mS20, mR29, mA29, mS29, mR32, mA32, mS32, mR33, mA33, mS33, mR34, mA34, mS34, mR35, mA35, mS35, mR37, mA37, mS37, mR38, mA38, mS38, mR39, mA39, mS39, mR40, mA40, mS40, mR41, mA41, mS41, mR43, mA43, mS43, mR46, mA46, mS46, mR47, mA47, mS47, mR48, mA48, mS48, mR49, mA49, mS49, mR50, mA50, mS50, mR51, mA51, mS51, mR52, mA52, mS52, mR53, mA53, mS53, mR60, mA60, mS60, mR61, mA61, mS61, Option.bind_some, ofN_add, ofN_mul, ofN_sub, ofN_lt, ofN_le, ofN_inj, ofN_dec, ofN_lt_neg, neg_lt_ofN, ofN_le_neg, neg_le_ofN, ofN_eq_neg, neg_eq_ofN, ofN_irm, ofN_div, l0, l1, l2, l3, l4, l5, l6, l7, l8, l9, l10, l11, l12, l13, l14, l15, l16, l17, l18, l19, l20, l21, l22, l23, l24, l25, l26, l27, l28, l29, l30, l31, l32, l33, l34, l35, l36, l37, l38, l39, l40, l41, l42, l43, l44, l45, l46, l47, l48, l49, l50, l51, l52, l53, l54, l55, l56, l57, l58, l59, l60, l61, l62, l63, l64, l65, l66, l67, l68, l69, l70, l71, l72, l73, l74, l75, l76, l77, l78, l79, l80, l81, l82, l83, l84, l85, l86, l87, l88, l89, l90, l91, l92, l93, l94, l95, l96, l97, l98, l99, l100, l101, l102, l103, l104, l105, l106, l107, l108, l109, l110, l111, l112, l113, l114, l115, l116, l117, l118, l119, l120, l121, l122, l123, l124, l125, l126, l127, l128, l129, l130, l131, l196, l200, l245, l255, l368, l369, l370, l382, l383, l384, l385, l386, l387, l388, l394, l395, l400, l401, l617, l738, l800, l999, l1000, l1500, l1600, l2400, l3195, l5920, l5995, l11990, l99999, l1000000, l100000000, l1000000000, l2000000000, l2147483647]
    rw [if_neg (by omega), sv_ups (show 25 < 92 by omega), vw_at (show 25 < 92 by omega)]
  | false =>
    simp (disch := first | omega | assumption) only [X7_at, readB, readQ, k2, Bool.false_eq_true, if_false, if_true, mgI, mgL, mpI, mpZ0, mpZ1, mpL, mcT, rZ0, rZ1, mR1, mA1, mS1, mR2, mA2, mS2, mR3, mA3, mS3, mR4, mA4, mS4, mR5, mA5, mS5, mR6, mA6, mS6, mR7, mA7, mS7, mR8, mA8, mS8, mR10, mA10, mS10, mR14, mA14, mS14, mR15, mA15, mS15, mR18, mA18, mS18, mR19, mA19, mS19, mR20, mA20, mS20, mR29, mA29, mS29, mR32, mA32, mS32, mR33, mA33, mS33, mR34, mA34, mS34, mR35, mA35, mS35, mR37, mA37, mS37, mR38, mA38, mS38, mR39, mA39, mS39, mR40, mA40, mS40, mR41, mA41, mS41, mR43, mA43, mS43, mR46, mA46, mS46, mR47, mA47, mS47, mR48, mA48, mS48, mR49, mA49, mS49, mR50, mA50, mS50, mR51, mA51, mS51, mR52, mA52, mS52, mR53, mA53, mS53, mR60, mA60, mS60, mR61, mA61, mS61, Option.bind_some, ofN_add, ofN_mul, ofN_sub, ofN_lt, ofN_le, ofN_inj, ofN_dec, ofN_lt_neg, neg_lt_ofN, ofN_le_neg, neg_le_ofN, ofN_eq_neg, neg_eq_ofN, ofN_irm, ofN_div, l0, l1, l2, l3, l4, l5, l6, l7, l8, l9, l10, l11, l12, l13, l14, l15, l16, l17, l18, l19, l20, l21, l22, l23, l24, l25, l26, l27, l28, l29, l30, l31, l32, l33, l34, l35, l36, l37, l38, l39, l40, l41, l42, l43, l44, l45, l46, l47, l48, l49, l50, l51, l52, l53, l54, l55, l56, l57, l58, l59, l60, l61, l62, l63, l64, l65, l66, l67, l68, l69, l70, l71, l72, l73, l74, l75, l76, l77, l78, l79, l80, l81, l82, l83, l84, l85, l86, l87, l88, l89, l90, l91, l92, l93, l94, l95, l96, l97, l98, l99, l100, l101, l102, l103, l104, l105, l106, l107, l108, l109, l110, l111, l112, l113, l114, l115, l116, l117, l118, l119, l120, l121, l122, l123, l124, l125, l126, l127, l128, l129, l130, l131, l196, l200, l245, l255, l368, l369, l370, l382, l383, l384, l385, l386, l387, l388, l394, l395, l400, l401, l617, l738, l800, l999, l1000, l1500, l1600, l2400, l3195, l5920, l5995, l11990, l99999, l1000000, l100000000, l1000000000, l2000000000, l2147483647, up1_eq]
    have e1 : ups (I (m + 2)) (92 * t + (25 + plcB (vw (I (m + 2)) t) 0 key)) (I (m + 2) (92 * t + (25 + plcB (vw (I (m + 2)) t) 0 key)) + c) = sv (I (m + 2)) t (rd1 (vw (I (m + 2)) t) key c) := by
      rw [sv_ups (by omega)]
      unfold rd1
      rw [vw_at (show 25 + plcB (vw (I (m + 2)) t) 0 key < 92 by omega)]
    rw [e1]
    have c1 : Cut (rd1 (vw (I (m + 2)) t) key c) := cut_ups cut_vw (by omega)
    have g : ∀ j, j < 25 ∨ 50 ≤ j → rd1 (vw (I (m + 2)) t) key c j = vw (I (m + 2)) t j := fun j hj => ups_ne (by omega)
    have e5 : vw (up1 I2 (m + 2) (sv (I (m + 2)) t (rd1 (vw (I (m + 2)) t) key c)) (m + 2)) t = rd1 (vw (I (m + 2)) t) key c := by rw [up1_eq, vw_sv c1]
    have eL : ∀ B : Nat → Int32, (if lastB B 59 key 58 ≤ hs (I (m + 2) 384) key then L else up1 L (m + 3) (svL (L (m + 3)) t (sampQ (vwL (L (m + 3)) t) (lastB B 59 key) key c))) = up1 L (m + 3) (svL (L (m + 3)) t (rd5Q (vwL (L (m + 3)) t) B key c (I (m + 2) 384))) := by
      intro B
      unfold rd5Q
      split
      · rw [svL_self, up1_self]
      · rfl
    unfold rd2
    by_cases hz : plcB (vw (I (m + 2)) t) 0 key ≤ 0
    · rw [if_pos hz, if_neg (show ¬ 0 < plcB (vw (I (m + 2)) t) 0 key by omega)]
      have g0 := g 0 (by omega)
      have a1 : sv (I (m + 2)) t (rd1 (vw (I (m + 2)) t) key c) (92 * t + 0) = ofN n := by rw [sv_at (by omega), g0, n0]
      rw [a1, g0, n0]
      by_cases hx : ofN n = ofN 24
      · have hx' : n = 24 := by rw [ofN_inj (by omega) (by omega)] at hx; exact hx
        subst hx'
        have o0 : rd1 (vw (I (m + 2)) t) key c 0 = ofN 24 := g0.trans n0
        rw [if_pos hx, if_pos hx, M_goesOut h ht (n := 24) (by rw [e5]; exact o0) (by omega) (by omega) (by omega), Option.bind_some, e5, up1_up1, up1_eq, sv_sv]
        have c2 : Cut (outB (rd1 (vw (I (m + 2)) t) key c) 0 24) := cut_out c1 o0 (by omega)
        have e6 : vw (up1 I2 (m + 2) (sv (I (m + 2)) t (outB (rd1 (vw (I (m + 2)) t) key c) 0 24)) (m + 2)) t = outB (rd1 (vw (I (m + 2)) t) key c) 0 24 := by rw [up1_eq, vw_sv c2]
        rw [M_c98 h ht (ns := 23) (n := ns) (l := l) (nr := nr) (by rw [e6, outB_n o0 (by omega)]) (by omega) (by rw [e6, outB_ne o0 (by omega) (by omega) (by omega), g 50 (by omega)]; exact s0) s1 (by rw [e6, outB_ne o0 (by omega) (by omega) (by omega), g 58 (by omega)]; exact lm0) l1' l2' (by rw [e6, outB_ne o0 (by omega) (by omega) (by omega), g 59 (by omega)]; exact r0) r1, e6, up1_up1, up1_eq, sv_sv, sv_hi ht (by omega), eL]
      · have hx' : n ≠ 24 := by rw [ofN_inj (by omega) (by omega)] at hx; exact hx
        rw [if_neg hx, if_neg hx]
        rw [M_c98 h ht (ns := n) (n := ns) (l := l) (nr := nr) (by rw [e5, g0]; exact n0) (by omega) (by rw [e5, g 50 (by omega)]; exact s0) s1 (by rw [e5, g 58 (by omega)]; exact lm0) l1' l2' (by rw [e5, g 59 (by omega)]; exact r0) r1, e5, up1_up1, up1_eq, sv_sv, sv_hi ht (by omega), eL]
    · rw [if_neg hz, if_pos (show 0 < plcB (vw (I (m + 2)) t) 0 key by omega)]
      have o0 : rd1 (vw (I (m + 2)) t) key c 0 = ofN n := (g 0 (by omega)).trans n0
      rw [M_goesOut h ht (n := n) (by rw [e5]; exact o0) (by omega) (by omega) (by omega), Option.bind_some, e5, up1_up1, up1_eq, sv_sv]
      have c2 : Cut (outB (rd1 (vw (I (m + 2)) t) key c) 0 (plcB (vw (I (m + 2)) t) 0 key)) := cut_out c1 o0 (by omega)
      have e6 : vw (up1 I2 (m + 2) (sv (I (m + 2)) t (outB (rd1 (vw (I (m + 2)) t) key c) 0 (plcB (vw (I (m + 2)) t) 0 key))) (m + 2)) t = outB (rd1 (vw (I (m + 2)) t) key c) 0 (plcB (vw (I (m + 2)) t) 0 key) := by rw [up1_eq, vw_sv c2]
      rw [M_c98 h ht (ns := n - 1) (n := ns) (l := l) (nr := nr) (by rw [e6, outB_n o0 (by omega)]) (by omega) (by rw [e6, outB_ne o0 (by omega) (by omega) (by omega), g 50 (by omega)]; exact s0) s1 (by rw [e6, outB_ne o0 (by omega) (by omega) (by omega), g 58 (by omega)]; exact lm0) l1' l2' (by rw [e6, outB_ne o0 (by omega) (by omega) (by omega), g 59 (by omega)]; exact r0) r1, e6, up1_up1, up1_eq, sv_sv, sv_hi ht (by omega), eL]
theorem M_drops (h : MSh m σ) {t n ns nr l : Nat} {key : Int32} (ht : t < 4) (hB : BN (vw (I (m + 2)) t) n ns nr l) (h1 : 1 ≤ n) :
    X7_drops (some m) (ofN t) key (hw σ I L) = some (hw σ (up1 I (m + 2) (sv (I (m + 2)) t (dropB (vw (I (m + 2)) t) key))) L) := by
  obtain ⟨⟨n0, n1⟩, ⟨s0, s1⟩, -⟩ := hB
  have hp := plcB_le (key := key) n0 (by omega)
  have c1 : Cut (outB (vw (I (m + 2)) t) 0 (plcB (vw (I (m + 2)) t) 0 key)) := cut_out cut_vw n0 (by omega)
  have e5 : vw (up1 I (m + 2) (sv (I (m + 2)) t (outB (vw (I (m + 2)) t) 0 (plcB (vw (I (m + 2)) t) 0 key))) (m + 2)) t = outB (vw (I (m + 2)) t) 0 (plcB (vw (I (m + 2)) t) 0 key) := by rw [up1_eq, vw_sv c1]
  have q0 : outB (vw (I (m + 2)) t) 0 (plcB (vw (I (m + 2)) t) 0 key) 50 = ofN ns := (outB_ne n0 (by omega) (by omega) (by omega)).trans s0
  have hp2 := plcB_le (key := key) q0 (by omega)
  simp (disch := first | omega | assumption) only [X7_drops, M_placeIn h ht n0 (by omega), M_goesOut h ht n0 (show 0 + n < 92 by omega) hp h1, mgI, mgL, mpI, mpZ0, mpZ1, mpL, mcT, rZ0, rZ1, mR1, mA1, mS1, mR2, mA2, mS2, mR3, mA3, mS3, mR4, mA4, mS4, mR5, mA5, mS5, mR6, mA6, mS6, mR7, mA7, mS7, mR8, mA8, mS8, mR10, mA10, mS10, mR14, mA14, mS14, mR15, mA15, mS15, mR18, mA18, mS18, mR19, mA19, mS19, mR20, mA20, mS20, mR29, mA29, mS29, mR32, mA32, mS32, mR33, mA33, mS33, mR34, mA34, mS34, mR35, mA35, mS35, mR37, mA37, mS37, mR38, mA38, mS38, mR39, mA39, mS39, mR40, mA40, mS40, mR41, mA41, mS41, mR43, mA43, mS43, mR46, mA46, mS46, mR47, mA47, mS47, mR48, mA48, mS48, mR49, mA49, mS49, mR50, mA50, mS50, mR51, mA51, mS51, mR52, mA52, mS52, mR53, mA53, mS53, mR60, mA60, mS60, mR61, mA61, mS61, Option.bind_some, ofN_add, ofN_mul, ofN_sub, ofN_lt, ofN_le, ofN_inj, ofN_dec, ofN_lt_neg, neg_lt_ofN, ofN_le_neg, neg_le_ofN, ofN_eq_neg, neg_eq_ofN, ofN_irm, ofN_div, l0, l1, l2, l3, l4, l5, l6, l7, l8, l9, l10, l11, l12, l13, l14, l15, l16, l17, l18, l19, l20, l21, l22, l23, l24, l25, l26, l27, l28, l29, l30, l31, l32, l33, l34, l35, l36, l37, l38, l39, l40, l41, l42, l43, l44, l45, l46, l47, l48, l49, l50, l51, l52, l53, l54, l55, l56, l57, l58, l59, l60, l61, l62, l63, l64, l65, l66, l67, l68, l69, l70, l71, l72, l73, l74, l75, l76, l77, l78, l79, l80, l81, l82, l83, l84, l85, l86, l87, l88, l89, l90, l91, l92, l93, l94, l95, l96, l97, l98, l99, l100, l101, l102, l103, l104, l105, l106, l107, l108, l109, l110, l111, l112, l113, l114, l115, l116, l117, l118, l119, l120, l121, l122, l123, l124, l125, l126, l127, l128, l129, l130, l131, l196, l200, l245, l255, l368, l369, l370, l382, l383, l384, l385, l386, l387, l388, l394, l395, l400, l401, l617, l738, l800, l999, l1000, l1500, l1600, l2400, l3195, l5920, l5995, l11990, l99999, l1000000, l100000000, l1000000000, l2000000000, l2147483647]
  rw [M_placeIn h ht (n := ns) (by rw [e5]; exact q0) (by omega), Option.bind_some, e5]
  simp (disch := first | omega | assumption) only [mgI, mgL, mpI, mpZ0, mpZ1, mpL, mcT, rZ0, rZ1, mR1, mA1, mS1, mR2, mA2, mS2, mR3, mA3, mS3, mR4, mA4, mS4, mR5, mA5, mS5, mR6, mA6, mS6, mR7, mA7, mS7, mR8, mA8, mS8, mR10, mA10, mS10, mR14, mA14, mS14, mR15, mA15, mS15, mR18, mA18, mS18, mR19, mA19, mS19, mR20, mA20, mS20, mR29, mA29, mS29, mR32, mA32, mS32, mR33, mA33, mS33, mR34, mA34, mS34, mR35, mA35, mS35, mR37, mA37, mS37, mR38, mA38, mS38, mR39, mA39, mS39, mR40, mA40, mS40, mR41, mA41, mS41, mR43, mA43, mS43, mR46, mA46, mS46, mR47, mA47, mS47, mR48, mA48, mS48, mR49, mA49, mS49, mR50, mA50, mS50, mR51, mA51, mS51, mR52, mA52, mS52, mR53, mA53, mS53, mR60, mA60, mS60, mR61, mA61, mS61, Option.bind_some, ofN_add, ofN_mul, ofN_sub, ofN_lt, ofN_le, ofN_inj, ofN_dec, ofN_lt_neg, neg_lt_ofN, ofN_le_neg, neg_le_ofN, ofN_eq_neg, neg_eq_ofN, ofN_irm, ofN_div, l0, l1, l2, l3, l4, l5, l6, l7, l8, l9, l10, l11, l12, l13, l14, l15, l16, l17, l18, l19, l20, l21, l22, l23, l24, l25, l26, l27, l28, l29, l30, l31, l32, l33, l34, l35, l36, l37, l38, l39, l40, l41, l42, l43, l44, l45, l46, l47, l48, l49, l50, l51, l52, l53, l54, l55, l56, l57, l58, l59, l60, l61, l62, l63, l64, l65, l66, l67, l68, l69, l70, l71, l72, l73, l74, l75, l76, l77, l78, l79, l80, l81, l82, l83, l84, l85, l86, l87, l88, l89, l90, l91, l92, l93, l94, l95, l96, l97, l98, l99, l100, l101, l102, l103, l104, l105, l106, l107, l108, l109, l110, l111, l112, l113, l114, l115, l116, l117, l118, l119, l120, l121, l122, l123, l124, l125, l126, l127, l128, l129, l130, l131, l196, l200, l245, l255, l368, l369, l370, l382, l383, l384, l385, l386, l387, l388, l394, l395, l400, l401, l617, l738, l800, l999, l1000, l1500, l1600, l2400, l3195, l5920, l5995, l11990, l99999, l1000000, l100000000, l1000000000, l2000000000, l2147483647]
  unfold dropB
  by_cases hz : plcB (outB (vw (I (m + 2)) t) 0 (plcB (vw (I (m + 2)) t) 0 key)) 50 key ≤ 0
  · rw [if_pos hz, if_neg (by omega)]
  · rw [if_neg hz, if_pos (by omega), M_goesOut h ht (n := ns) (by rw [e5]; exact q0) (by omega) hp2 (by omega), Option.bind_some, e5, up1_up1, up1_eq, sv_sv]
theorem hsF_congr {B B' : Nat → Int32} : ∀ (r k : Nat) (x : Int32), (∀ j, k ≤ j → B (25 + j) = B' (25 + j)) → hsF B r k x = hsF B' r k x
  | 0, _, _, _ => rfl
  | r + 1, k, x, hb => by
    unfold hsF
    rw [hb k (Nat.le_refl _)]
    exact hsF_congr r (k + 1) _ (fun j hj => hb j (by omega))
theorem M_halfF (h : MSh m σ) {t : Nat} {kk : Int32 → Hp → Option (Int32 × Hp)} (ht : t < 4) : ∀ (r fuel k : Nat) (x : Int32) (I : IM), 25 = k + r → r < fuel →
    X7_timePasses_c11 (some m) (ofN t) kk fuel x (ofN k) (hw σ I L) = kk (hsF (vw (I (m + 2)) t) r k x) (hw σ (up1 I (m + 2) (sv (I (m + 2)) t (halfF (vw (I (m + 2)) t) k))) L) := by
  intro r
  induction r with
  | zero =>
    intro fuel k x I hk hf
    obtain ⟨f, rfl⟩ : ∃ f, fuel = f + 1 := ⟨fuel - 1, by omega⟩
    simp (disch := first | omega | assumption) only [X7_timePasses_c11, hsF, Option.bind_some, ofN_add, ofN_mul, ofN_sub, ofN_lt, ofN_le, ofN_inj, ofN_dec, ofN_lt_neg, neg_lt_ofN, ofN_le_neg, neg_le_ofN, ofN_eq_neg, neg_eq_ofN, ofN_irm, ofN_div, l0, l1, l2, l3, l4, l5, l6, l7, l8, l9, l10, l11, l12, l13, l14, l15, l16, l17, l18, l19, l20, l21, l22, l23, l24, l25, l26, l27, l28, l29, l30, l31, l32, l33, l34, l35, l36, l37, l38, l39, l40, l41, l42, l43, l44, l45, l46, l47, l48, l49, l50, l51, l52, l53, l54, l55, l56, l57, l58, l59, l60, l61, l62, l63, l64, l65, l66, l67, l68, l69, l70, l71, l72, l73, l74, l75, l76, l77, l78, l79, l80, l81, l82, l83, l84, l85, l86, l87, l88, l89, l90, l91, l92, l93, l94, l95, l96, l97, l98, l99, l100, l101, l102, l103, l104, l105, l106, l107, l108, l109, l110, l111, l112, l113, l114, l115, l116, l117, l118, l119, l120, l121, l122, l123, l124, l125, l126, l127, l128, l129, l130, l131, l196, l200, l245, l255, l368, l369, l370, l382, l383, l384, l385, l386, l387, l388, l394, l395, l400, l401, l617, l738, l800, l999, l1000, l1500, l1600, l2400, l3195, l5920, l5995, l11990, l99999, l1000000, l100000000, l1000000000, l2000000000, l2147483647]
    rw [if_pos (by omega)]
    have e : halfF (vw (I (m + 2)) t) k = vw (I (m + 2)) t := by
      funext j
      unfold halfF
      rw [if_neg (by omega)]
    rw [e, sv_self, up1_self]
  | succ r ih =>
    intro fuel k x I hk hf
    obtain ⟨f, rfl⟩ : ∃ f, fuel = f + 1 := ⟨fuel - 1, by omega⟩
    simp (disch := first | omega | assumption) only [X7_timePasses_c11, X7_at, hsF, mgI, mgL, mpI, mpZ0, mpZ1, mpL, mcT, rZ0, rZ1, mR1, mA1, mS1, mR2, mA2, mS2, mR3, mA3, mS3, mR4, mA4, mS4, mR5, mA5, mS5, mR6, mA6, mS6, mR7, mA7, mS7, mR8, mA8, mS8, mR10, mA10, mS10, mR14, mA14, mS14, mR15, mA15, mS15, mR18, mA18, mS18, mR19, mA19, mS19, mR20, mA20, mS20, mR29, mA29, mS29, mR32, mA32, mS32, mR33, mA33, mS33, mR34, mA34, mS34, mR35, mA35, mS35, mR37, mA37, mS37, mR38, mA38, mS38, mR39, mA39, mS39, mR40, mA40, mS40, mR41, mA41, mS41, mR43, mA43, mS43, mR46, mA46, mS46, mR47, mA47, mS47, mR48, mA48, mS48, mR49, mA49, mS49, mR50, mA50, mS50, mR51, mA51, mS51, mR52, mA52, mS52, mR53, mA53, mS53, mR60, mA60, mS60, mR61, mA61, mS61, Option.bind_some, ofN_add, ofN_mul, ofN_sub, ofN_lt, ofN_le, ofN_inj, ofN_dec, ofN_lt_neg, neg_lt_ofN, ofN_le_neg, neg_le_ofN, ofN_eq_neg, neg_eq_ofN, ofN_irm, ofN_div, l0, l1, l2, l3, l4, l5, l6, l7, l8, l9, l10, l11, l12, l13, l14, l15, l16, l17, l18, l19, l20, l21, l22, l23, l24, l25, l26, l27, l28, l29, l30, l31, l32, l33, l34, l35, l36, l37, l38, l39, l40, l41, l42, l43, l44, l45, l46, l47, l48, l49, l50, l51, l52, l53, l54, l55, l56, l57, l58, l59, l60, l61, l62, l63, l64, l65, l66, l67, l68, l69, l70, l71, l72, l73, l74, l75, l76, l77, l78, l79, l80, l81, l82, l83, l84, l85, l86, l87, l88, l89, l90, l91, l92, l93, l94, l95, l96, l97, l98, l99, l100, l101, l102, l103, l104, l105, l106, l107, l108, l109, l110, l111, l112, l113, l114, l115, l116, l117, l118, l119, l120, l121, l122, l123, l124, l125, l126, l127, l128, l129, l130, l131, l196, l200, l245, l255, l368, l369, l370, l382, l383, l384, l385, l386, l387, l388, l394, l395, l400, l401, l617, l738, l800, l999, l1000, l1500, l1600, l2400, l3195, l5920, l5995, l11990, l99999, l1000000, l100000000, l1000000000, l2000000000, l2147483647, up1_eq, ups_eq]
    rw [if_neg (by omega), sv_ups (show 25 + k < 92 by omega)]
    have c1 : Cut (ups (vw (I (m + 2)) t) (25 + k) (I (m + 2) (92 * t + (25 + k)) / ofN 2)) := cut_ups cut_vw (by omega)
    rw [ih f (k + 1) _ _ (by omega) (by omega), up1_up1, up1_eq, sv_sv, vw_sv c1, vw_at (show 25 + k < 92 by omega)]
    rw [hsF_congr (B' := vw (I (m + 2)) t) r (k + 1) _ (fun j hj => ups_ne (by omega))]
    congr 4
    funext j
    unfold halfF ups
    by_cases hj : j = 25 + k
    · subst hj
      rw [if_neg (by omega), if_pos rfl, if_pos (by omega), vw_at (by omega)]
    · rw [if_neg hj]
      by_cases h2 : 25 + k ≤ j ∧ j < 50
      · rw [if_pos (by omega), if_pos h2]
      · rw [if_neg (by omega), if_neg h2]
theorem M_hallF (h : MSh m σ) {kk : Int32 → Hp → Option (Int32 × Hp)} : ∀ (r fuel t : Nat) (x : Int32) (I : IM), 4 = t + r → r < fuel →
    X7_timePasses_c4 (some m) kk fuel x (ofN t) (hw σ I L) = kk (hallF r t x (I (m + 2))).1 (hw σ (up1 I (m + 2) (hallF r t x (I (m + 2))).2) L) := by
  intro r
  induction r with
  | zero =>
    intro fuel t x I hk hf
    obtain ⟨f, rfl⟩ : ∃ f, fuel = f + 1 := ⟨fuel - 1, by omega⟩
    simp (disch := first | omega | assumption) only [X7_timePasses_c4, hallF, Option.bind_some, ofN_add, ofN_mul, ofN_sub, ofN_lt, ofN_le, ofN_inj, ofN_dec, ofN_lt_neg, neg_lt_ofN, ofN_le_neg, neg_le_ofN, ofN_eq_neg, neg_eq_ofN, ofN_irm, ofN_div, l0, l1, l2, l3, l4, l5, l6, l7, l8, l9, l10, l11, l12, l13, l14, l15, l16, l17, l18, l19, l20, l21, l22, l23, l24, l25, l26, l27, l28, l29, l30, l31, l32, l33, l34, l35, l36, l37, l38, l39, l40, l41, l42, l43, l44, l45, l46, l47, l48, l49, l50, l51, l52, l53, l54, l55, l56, l57, l58, l59, l60, l61, l62, l63, l64, l65, l66, l67, l68, l69, l70, l71, l72, l73, l74, l75, l76, l77, l78, l79, l80, l81, l82, l83, l84, l85, l86, l87, l88, l89, l90, l91, l92, l93, l94, l95, l96, l97, l98, l99, l100, l101, l102, l103, l104, l105, l106, l107, l108, l109, l110, l111, l112, l113, l114, l115, l116, l117, l118, l119, l120, l121, l122, l123, l124, l125, l126, l127, l128, l129, l130, l131, l196, l200, l245, l255, l368, l369, l370, l382, l383, l384, l385, l386, l387, l388, l394, l395, l400, l401, l617, l738, l800, l999, l1000, l1500, l1600, l2400, l3195, l5920, l5995, l11990, l99999, l1000000, l100000000, l1000000000, l2000000000, l2147483647]
    rw [if_pos (by omega), up1_self]
  | succ r ih =>
    intro fuel t x I hk hf
    obtain ⟨f, rfl⟩ : ∃ f, fuel = f + 1 := ⟨fuel - 1, by omega⟩
    simp (disch := first | omega | assumption) only [X7_timePasses_c4, hallF, Option.bind_some, ofN_add, ofN_mul, ofN_sub, ofN_lt, ofN_le, ofN_inj, ofN_dec, ofN_lt_neg, neg_lt_ofN, ofN_le_neg, neg_le_ofN, ofN_eq_neg, neg_eq_ofN, ofN_irm, ofN_div, l0, l1, l2, l3, l4, l5, l6, l7, l8, l9, l10, l11, l12, l13, l14, l15, l16, l17, l18, l19, l20, l21, l22, l23, l24, l25, l26, l27, l28, l29, l30, l31, l32, l33, l34, l35, l36, l37, l38, l39, l40, l41, l42, l43, l44, l45, l46, l47, l48, l49, l50, l51, l52, l53, l54, l55, l56, l57, l58, l59, l60, l61, l62, l63, l64, l65, l66, l67, l68, l69, l70, l71, l72, l73, l74, l75, l76, l77, l78, l79, l80, l81, l82, l83, l84, l85, l86, l87, l88, l89, l90, l91, l92, l93, l94, l95, l96, l97, l98, l99, l100, l101, l102, l103, l104, l105, l106, l107, l108, l109, l110, l111, l112, l113, l114, l115, l116, l117, l118, l119, l120, l121, l122, l123, l124, l125, l126, l127, l128, l129, l130, l131, l196, l200, l245, l255, l368, l369, l370, l382, l383, l384, l385, l386, l387, l388, l394, l395, l400, l401, l617, l738, l800, l999, l1000, l1500, l1600, l2400, l3195, l5920, l5995, l11990, l99999, l1000000, l100000000, l1000000000, l2000000000, l2147483647]
    rw [if_neg (by omega), M_halfF h (by omega) 25 FUEL 0 x I (by omega) (by unfold FUEL; omega), ih f (t + 1) _ _ (by omega) (by omega), up1_up1, up1_eq]
end MOPS
