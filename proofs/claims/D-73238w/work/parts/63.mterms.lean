set_option maxRecDepth 100000
/-! THE MODEL's TERMS and SUMS -/
theorem SV.join {live b0 b b1 b' c : Nat} {d d' : Option Int64} {v w v' : Int64} (h1 : SV live b0 d v b) (h2 : SV live b d' w b1) (hb : b' ≤ 1) (h3 : live = 1 → b0 = 0 → d = some v → optB (opv c v w) v' b' ∨ b1 = 1) (h4 : ¬ (live = 1 ∧ b1 = 0) → b' = b1) : SV live b0 (d.bind fun p => d'.bind fun q => opv c p q) v' b' := by
  refine ⟨hb, ?_⟩
  obtain ⟨g1, h1⟩ := h1
  obtain ⟨g2, h2⟩ := h2
  split
  · next hz =>
    rw [if_pos hz] at h1
    rcases h1 with ⟨e1, z1⟩ | ⟨e1, z1⟩
    · rw [if_pos ⟨hz.1, z1⟩] at h2
      rcases h2 with ⟨e2, z2⟩ | ⟨e2, z2⟩
      · rcases h3 hz.1 hz.2 e1 with z | z
        · rw [e1, e2]; exact z
        · omega
      · rw [e1, e2]
        exact Or.inr ⟨rfl, by rw [h4 (by omega)]; exact z2⟩
    · rw [if_neg (by omega)] at h2
      rw [e1]
      exact Or.inr ⟨rfl, by rw [h4 (by omega)]; omega⟩
  · next hz =>
    rw [if_neg hz] at h1
    rw [if_neg (by omega)] at h2
    rw [h4 (by omega)]
    omega
section MTERMS
variable {m : Nat} {σ : Hp} {I : IM} {L : LM} {ord : Bool} {cd vl : Nat → Nat} {G T : Nat}
theorem cmp0 {w : Int64} : (lg_cmp w 0 = ofN 0) = (w = 0) := propext (lg_cmp_eq w 0)
theorem E_c54 (h : MSh m σ) (hE : EvC m I ord cd vl G T) (hT : Tk cd vl T) {rec : Option Nat → Int32 → Hp → Option (Int64 × Hp)} {k6 : Int64 → Hp → Option (Int64 × Hp)} {i i' live b b0 : Nat} {d d' : DS} {v : Int64} (hl : live ≤ 1) (hi : i < T) (hc : isMul (cd i) = true)
    (hp : SpS m σ I L ord G (X7_partOf rec) (i + 1) i' d') (hs : SV live b0 (d (envI m I ord)) v b) (hd : DB d) (he : EOK (envI m I ord)) :
    ∃ v' b', X7_termOf_c54 rec k6 (some m) (ofN live) v (hw σ (stE m I (G + i) b) L) = k6 v' (hw σ (stE m I (G + i') b') L) ∧ SV live b0 (jn (cd i) d d' (envI m I ord)) v' b' := by
  obtain ⟨w, b1, e1, s1⟩ := hp live b hl hs.1
  have hc1 := hT.2.2.1 i
  have hb1 := s1.1
  have e0 : G + i + 1 = G + (i + 1) := by omega
  have cA : X7_codeAt (some m) (ofN (G + i)) (hw σ (stE m I (G + i) b) L) = some (ofN (cd i), hw σ (stE m I (G + i) b) L) := E_codeAt h hT hE (Nat.le_of_lt hi)
  have start : X7_termOf_c54 rec k6 (some m) (ofN live) v (hw σ (stE m I (G + i) b) L) = (if cd i = 100 + 42 then X7_termOf_c121 rec k6 (some m) (ofN live) v (ofN (cd i)) w (hw σ (stE m I (G + i') b1) L) else if w = 0 then (if b1 = 0 then (if live = 0 then X7_termOf_c115 rec k6 (some m) (ofN live) v (ofN (cd i)) (some m) (ofN 0) (hw σ (stE m I (G + i') b1) L) else X7_termOf_c115 rec k6 (some m) (ofN live) v (ofN (cd i)) (some m) (ofN 1) (hw σ (stE m I (G + i') b1) L)) else X7_termOf_c115 rec k6 (some m) (ofN live) v (ofN (cd i)) (some m) (ofN 1) (hw σ (stE m I (G + i') b1) L)) else X7_termOf_c121 rec k6 (some m) (ofN live) v (ofN (cd i)) w (hw σ (stE m I (G + i') b1) L)) := by
    simp (disch := first | omega | assumption) only [X7_termOf_c54, X7_signOf, stE_25, cA, stE_set25, e0, e1, stE_27, cmp0, mgI, mgL, mpI, mpZ0, mpZ1, mpL, mcT, rZ0, rZ1, mR1, mA1, mS1, mR2, mA2, mS2, mR3, mA3, mS3, mR4, mA4, mS4, mR5, mA5, mS5, mR6, mA6, mS6, mR7, mA7, mS7, mR8, mA8, mS8, mR10, mA10, mS10, mR14, mA14, mS14, mR15, mA15, mS15, mR18, mA18, mS18, mR19, mA19, mS19, mR20, mA20, mS20, mR29, mA29, mS29, mR32, mA32, mS32, mR33, mA33, mS33, mR34, mA34, mS34, mR35, mA35, mS35, mR37, mA37, mS37, mR38, mA38, mS38, mR39, mA39, mS39, mR40, mA40, mS40, mR41, mA41, mS41, mR43, mA43, mS43, mR46, mA46, mS46, mR47, mA47, mS47, mR48, mA48, mS48, mR49, mA49, mS49, mR50, mA50, mS50, mR51, mA51, mS51, mR52, mA52, mS52, mR53, mA53, mS53, mR60, mA60, mS60, mR61, mA61, mS61, Option.bind_some, ofN_add, ofN_mul, ofN_sub, ofN_lt, ofN_le, ofN_inj, ofN_dec, ofN_lt_neg, neg_lt_ofN, ofN_le_neg, neg_le_ofN, ofN_eq_neg, neg_eq_ofN, ofN_irm, ofN_div, l0, l1, l2, l3, l4, l5, l6, l7, l8, l9, l10, l11, l12, l13, l14, l15, l16, l17, l18, l19, l20, l21, l22, l23, l24, l25, l26, l27, l28, l29, l30, l31, l32, l33, l34, l35, l36, l37, l38, l39, l40, l41, l42, l43, l44, l45, l46, l47, l48, l49, l50, l51, l52, l53, l54, l55, l56, l57, l58, l59, l60, l61, l62, l63, l64, l65, l66, l67, l68, l69, l70, l71, l72, l73, l74, l75, l76, l77, l78, l79, l80, l81, l82, l83, l84, l85, l86, l87, l88, l89, l90, l91, l92, l93, l94, l95, l96, l97, l98, l99, l100, l101, l102, l103, l104, l105, l106, l107, l108, l109, l110, l111, l112, l113, l114, l115, l116, l117, l118, l119, l120, l121, l122, l123, l124, l125, l126, l127, l128, l129, l130, l131, l196, l200, l245, l255, l368, l369, l370, l382, l383, l384, l385, l386, l387, l388, l394, l395, l400, l401, l617, l738, l800, l999, l1000, l1500, l1600, l2400, l3195, l5920, l5995, l11990, l99999, l1000000, l100000000, l1000000000, l2000000000, l2147483647]
  have c121 : ∀ (x : Int64) (g : Nat) (bb : Nat), (cd i ≠ 142 → x ≠ 0) → X7_termOf_c121 rec k6 (some m) (ofN live) v (ofN (cd i)) x (hw σ (stE m I g bb) L) = X7_termOf_c160 rec k6 (some m) (ofN live) (some m) (if cd i = 142 then v * x else if cd i = 147 then v / x else lrm v x) (hw σ (stE m I g bb) L) := by
    intro x g bb hx
    simp (disch := first | omega | assumption) only [X7_termOf_c121, X7_signOf, Option.bind_some, ofN_add, ofN_mul, ofN_sub, ofN_lt, ofN_le, ofN_inj, ofN_dec, ofN_lt_neg, neg_lt_ofN, ofN_le_neg, neg_le_ofN, ofN_eq_neg, neg_eq_ofN, ofN_irm, ofN_div, l0, l1, l2, l3, l4, l5, l6, l7, l8, l9, l10, l11, l12, l13, l14, l15, l16, l17, l18, l19, l20, l21, l22, l23, l24, l25, l26, l27, l28, l29, l30, l31, l32, l33, l34, l35, l36, l37, l38, l39, l40, l41, l42, l43, l44, l45, l46, l47, l48, l49, l50, l51, l52, l53, l54, l55, l56, l57, l58, l59, l60, l61, l62, l63, l64, l65, l66, l67, l68, l69, l70, l71, l72, l73, l74, l75, l76, l77, l78, l79, l80, l81, l82, l83, l84, l85, l86, l87, l88, l89, l90, l91, l92, l93, l94, l95, l96, l97, l98, l99, l100, l101, l102, l103, l104, l105, l106, l107, l108, l109, l110, l111, l112, l113, l114, l115, l116, l117, l118, l119, l120, l121, l122, l123, l124, l125, l126, l127, l128, l129, l130, l131, l196, l200, l245, l255, l368, l369, l370, l382, l383, l384, l385, l386, l387, l388, l394, l395, l400, l401, l617, l738, l800, l999, l1000, l1500, l1600, l2400, l3195, l5920, l5995, l11990, l99999, l1000000, l100000000, l1000000000, l2000000000, l2147483647]
    by_cases h42 : cd i = 142
    · rw [if_pos h42, if_pos h42]
    · rw [if_neg h42, if_neg h42]
      have := hx h42
      by_cases h47 : cd i = 147
      · rw [if_pos h47, if_pos h47, if_neg this]
      · rw [if_neg h47, if_neg h47, if_neg this]
  have c160 : ∀ (x : Int64) (g bb : Nat), bb ≤ 1 → ∃ v' b', X7_termOf_c160 rec k6 (some m) (ofN live) (some m) x (hw σ (stE m I g bb) L) = k6 v' (hw σ (stE m I g b') L) ∧ SV live bb (wth x) v' b' := by
    intro x g bb hbb
    obtain ⟨v', b', e5, s5⟩ := E_bounded (L := L) (I := I) h (g := g) (b := bb) (live := live) (v := x) hbb hl
    exact ⟨v', b', by simp (disch := first | omega | assumption) only [X7_termOf_c160, e5, mgI, mgL, mpI, mpZ0, mpZ1, mpL, mcT, rZ0, rZ1, mR1, mA1, mS1, mR2, mA2, mS2, mR3, mA3, mS3, mR4, mA4, mS4, mR5, mA5, mS5, mR6, mA6, mS6, mR7, mA7, mS7, mR8, mA8, mS8, mR10, mA10, mS10, mR14, mA14, mS14, mR15, mA15, mS15, mR18, mA18, mS18, mR19, mA19, mS19, mR20, mA20, mS20, mR29, mA29, mS29, mR32, mA32, mS32, mR33, mA33, mS33, mR34, mA34, mS34, mR35, mA35, mS35, mR37, mA37, mS37, mR38, mA38, mS38, mR39, mA39, mS39, mR40, mA40, mS40, mR41, mA41, mS41, mR43, mA43, mS43, mR46, mA46, mS46, mR47, mA47, mS47, mR48, mA48, mS48, mR49, mA49, mS49, mR50, mA50, mS50, mR51, mA51, mS51, mR52, mA52, mS52, mR53, mA53, mS53, mR60, mA60, mS60, mR61, mA61, mS61, Option.bind_some, ofN_add, ofN_mul, ofN_sub, ofN_lt, ofN_le, ofN_inj, ofN_dec, ofN_lt_neg, neg_lt_ofN, ofN_le_neg, neg_le_ofN, ofN_eq_neg, neg_eq_ofN, ofN_irm, ofN_div, l0, l1, l2, l3, l4, l5, l6, l7, l8, l9, l10, l11, l12, l13, l14, l15, l16, l17, l18, l19, l20, l21, l22, l23, l24, l25, l26, l27, l28, l29, l30, l31, l32, l33, l34, l35, l36, l37, l38, l39, l40, l41, l42, l43, l44, l45, l46, l47, l48, l49, l50, l51, l52, l53, l54, l55, l56, l57, l58, l59, l60, l61, l62, l63, l64, l65, l66, l67, l68, l69, l70, l71, l72, l73, l74, l75, l76, l77, l78, l79, l80, l81, l82, l83, l84, l85, l86, l87, l88, l89, l90, l91, l92, l93, l94, l95, l96, l97, l98, l99, l100, l101, l102, l103, l104, l105, l106, l107, l108, l109, l110, l111, l112, l113, l114, l115, l116, l117, l118, l119, l120, l121, l122, l123, l124, l125, l126, l127, l128, l129, l130, l131, l196, l200, l245, l255, l368, l369, l370, l382, l383, l384, l385, l386, l387, l388, l394, l395, l400, l401, l617, l738, l800, l999, l1000, l1500, l1600, l2400, l3195, l5920, l5995, l11990, l99999, l1000000, l100000000, l1000000000, l2000000000, l2147483647], s5⟩
  rw [start]
  unfold isMul at hc
  have hc' : cd i = 142 ∨ cd i = 147 ∨ cd i = 137 := of_decide_eq_true hc
  unfold jn
  by_cases h42 : cd i = 142
  · rw [if_pos h42, c121 w _ _ (fun z => absurd h42 z), if_pos h42]
    obtain ⟨v', b', e5, s5⟩ := c160 (v * w) (G + i') b1 hb1
    refine ⟨v', b', e5, hs.join s1 s5.1 (fun l1 b0z dz => ?_) (fun z => by have := s5.2; rw [if_neg z] at this; exact this)⟩
    by_cases z1 : b1 = 0
    · refine Or.inl ?_
      have := s5.2
      rw [if_pos ⟨l1, z1⟩] at this
      unfold opv
      rw [if_neg (by omega), if_neg (by omega), if_pos h42]
      exact this
    · exact Or.inr (by omega)
  · rw [if_neg h42]
    have n43 : ¬ cd i = 143 := by omega
    have n45 : ¬ cd i = 145 := by omega
    by_cases hw0 : w = 0
    · rw [if_pos hw0]
      -- a broken one, unless it is not asked
      have c115 : ∀ bb, bb ≤ 1 → X7_termOf_c115 rec k6 (some m) (ofN live) v (ofN (cd i)) (some m) (ofN bb) (hw σ (stE m I (G + i') b1) L) = X7_termOf_c160 rec k6 (some m) (ofN live) (some m) (if cd i = 142 then v * 1 else if cd i = 147 then v / 1 else lrm v 1) (hw σ (stE m I (G + i') bb) L) := by
        intro bb hbb
        rw [← c121 1 (G + i') bb (fun _ => by decide)]
        have hz : bb = 0 ∨ bb = 1 := by omega
        rcases hz with rfl | rfl
        · simp (disch := first | omega | assumption) only [X7_termOf_c115, stE_set27, mgI, mgL, mpI, mpZ0, mpZ1, mpL, mcT, rZ0, rZ1, mR1, mA1, mS1, mR2, mA2, mS2, mR3, mA3, mS3, mR4, mA4, mS4, mR5, mA5, mS5, mR6, mA6, mS6, mR7, mA7, mS7, mR8, mA8, mS8, mR10, mA10, mS10, mR14, mA14, mS14, mR15, mA15, mS15, mR18, mA18, mS18, mR19, mA19, mS19, mR20, mA20, mS20, mR29, mA29, mS29, mR32, mA32, mS32, mR33, mA33, mS33, mR34, mA34, mS34, mR35, mA35, mS35, mR37, mA37, mS37, mR38, mA38, mS38, mR39, mA39, mS39, mR40, mA40, mS40, mR41, mA41, mS41, mR43, mA43, mS43, mR46, mA46, mS46, mR47, mA47, mS47, mR48, mA48, mS48, mR49, mA49, mS49, mR50, mA50, mS50, mR51, mA51, mS51, mR52, mA52, mS52, mR53, mA53, mS53, mR60, mA60, mS60, mR61, mA61, mS61, Option.bind_some, ofN_add, ofN_mul, ofN_sub, ofN_lt, ofN_le, ofN_inj, ofN_dec, ofN_lt_neg, neg_lt_ofN, ofN_le_neg, neg_le_ofN, ofN_eq_neg, neg_eq_ofN, ofN_irm, ofN_div, l0, l1, l2, l3, l4, l5, l6, l7, l8, l9, l10, l11, l12, l13, l14, l15, l16, l17, l18, l19, l20, l21, l22, l23, l24, l25, l26, l27, l28, l29, l30, l31, l32, l33, l34, l35, l36, l37, l38, l39, l40, l41, l42, l43, l44, l45, l46, l47, l48, l49, l50, l51, l52, l53, l54, l55, l56, l57, l58, l59, l60, l61, l62, l63, l64, l65, l66, l67, l68, l69, l70, l71, l72, l73, l74, l75, l76, l77, l78, l79, l80, l81, l82, l83, l84, l85, l86, l87, l88, l89, l90, l91, l92, l93, l94, l95, l96, l97, l98, l99, l100, l101, l102, l103, l104, l105, l106, l107, l108, l109, l110, l111, l112, l113, l114, l115, l116, l117, l118, l119, l120, l121, l122, l123, l124, l125, l126, l127, l128, l129, l130, l131, l196, l200, l245, l255, l368, l369, l370, l382, l383, l384, l385, l386, l387, l388, l394, l395, l400, l401, l617, l738, l800, l999, l1000, l1500, l1600, l2400, l3195, l5920, l5995, l11990, l99999, l1000000, l100000000, l1000000000, l2000000000, l2147483647]
        · simp (disch := first | omega | assumption) only [X7_termOf_c115, stE_set27, mgI, mgL, mpI, mpZ0, mpZ1, mpL, mcT, rZ0, rZ1, mR1, mA1, mS1, mR2, mA2, mS2, mR3, mA3, mS3, mR4, mA4, mS4, mR5, mA5, mS5, mR6, mA6, mS6, mR7, mA7, mS7, mR8, mA8, mS8, mR10, mA10, mS10, mR14, mA14, mS14, mR15, mA15, mS15, mR18, mA18, mS18, mR19, mA19, mS19, mR20, mA20, mS20, mR29, mA29, mS29, mR32, mA32, mS32, mR33, mA33, mS33, mR34, mA34, mS34, mR35, mA35, mS35, mR37, mA37, mS37, mR38, mA38, mS38, mR39, mA39, mS39, mR40, mA40, mS40, mR41, mA41, mS41, mR43, mA43, mS43, mR46, mA46, mS46, mR47, mA47, mS47, mR48, mA48, mS48, mR49, mA49, mS49, mR50, mA50, mS50, mR51, mA51, mS51, mR52, mA52, mS52, mR53, mA53, mS53, mR60, mA60, mS60, mR61, mA61, mS61, Option.bind_some, ofN_add, ofN_mul, ofN_sub, ofN_lt, ofN_le, ofN_inj, ofN_dec, ofN_lt_neg, neg_lt_ofN, ofN_le_neg, neg_le_ofN, ofN_eq_neg, neg_eq_ofN, ofN_irm, ofN_div, l0, l1, l2, l3, l4, l5, l6, l7, l8, l9, l10, l11, l12, l13, l14, l15, l16, l17, l18, l19, l20, l21, l22, l23, l24, l25, l26, l27, l28, l29, l30, l31, l32, l33, l34, l35, l36, l37, l38, l39, l40, l41, l42, l43, l44, l45, l46, l47, l48, l49, l50, l51, l52, l53, l54, l55, l56, l57, l58, l59, l60, l61, l62, l63, l64, l65, l66, l67, l68, l69, l70, l71, l72, l73, l74, l75, l76, l77, l78, l79, l80, l81, l82, l83, l84, l85, l86, l87, l88, l89, l90, l91, l92, l93, l94, l95, l96, l97, l98, l99, l100, l101, l102, l103, l104, l105, l106, l107, l108, l109, l110, l111, l112, l113, l114, l115, l116, l117, l118, l119, l120, l121, l122, l123, l124, l125, l126, l127, l128, l129, l130, l131, l196, l200, l245, l255, l368, l369, l370, l382, l383, l384, l385, l386, l387, l388, l394, l395, l400, l401, l617, l738, l800, l999, l1000, l1500, l1600, l2400, l3195, l5920, l5995, l11990, l99999, l1000000, l100000000, l1000000000, l2000000000, l2147483647]
      have opn : opv (cd i) v w = none := by
        unfold opv
        rw [if_neg n43, if_neg n45, if_neg h42, if_pos hw0]
      have fin : ∀ bb, bb ≤ 1 → (live = 1 ∧ b1 = 0 → bb = 1) → (¬ (live = 1 ∧ b1 = 0) → bb = b1) → ∃ v' b', X7_termOf_c115 rec k6 (some m) (ofN live) v (ofN (cd i)) (some m) (ofN bb) (hw σ (stE m I (G + i') b1) L) = k6 v' (hw σ (stE m I (G + i') b') L) ∧ SV live b0 ((d (envI m I ord)).bind fun p => (d' (envI m I ord)).bind fun q => opv (cd i) p q) v' b' := by
        intro bb hbb f1 f2
        rw [c115 bb hbb]
        obtain ⟨v', b', e5, s5⟩ := c160 _ (G + i') bb hbb
        refine ⟨v', b', e5, hs.join s1 s5.1 (fun l1 b0z dz => ?_) (fun z => ?_)⟩
        · by_cases z1 : b1 = 0
          · refine Or.inl ?_
            rw [opn]
            have := s5.2
            rw [if_neg (by have := f1 ⟨l1, z1⟩; omega)] at this
            exact Or.inr ⟨rfl, by rw [this]; exact f1 ⟨l1, z1⟩⟩
          · exact Or.inr (by omega)
        · have := s5.2
          rw [if_neg (by have := f2 z; omega)] at this
          rw [this]
          exact f2 z
      by_cases z1 : b1 = 0
      · rw [if_pos z1]
        by_cases z2 : live = 0
        · rw [if_pos z2]
          exact fin 0 (by omega) (fun z => by omega) (fun z => by omega)
        · rw [if_neg z2]
          exact fin 1 (by omega) (fun z => rfl) (fun z => by omega)
      · rw [if_neg z1]
        exact fin 1 (by omega) (fun z => rfl) (fun z => by omega)
    · rw [if_neg hw0, c121 w _ _ (fun _ => hw0), if_neg h42]
      obtain ⟨v', b', e5, s5⟩ := c160 (if cd i = 147 then v / w else lrm v w) (G + i') b1 hb1
      refine ⟨v', b', e5, hs.join s1 s5.1 (fun l1 b0z dz => ?_) (fun z => by have := s5.2; rw [if_neg z] at this; exact this)⟩
      have hin : inB v := hd _ he v dz
      by_cases z1 : b1 = 0
      · refine Or.inl ?_
        have := s5.2
        rw [if_pos ⟨l1, z1⟩] at this
        unfold opv
        rw [if_neg n43, if_neg n45, if_neg h42, if_neg hw0]
        by_cases h47 : cd i = 147
        · rw [if_pos h47] at this ⊢
          rw [wth_of (div_in hin).1] at this
          exact this
        · rw [if_neg h47] at this ⊢
          rw [wth_of (rem_in hin)] at this
          exact this
      · exact Or.inr (by omega)
theorem E_termF (h : MSh m σ) (hE : EvC m I ord cd vl G T) (hT : Tk cd vl T) {rec : Option Nat → Int32 → Hp → Option (Int64 × Hp)} {part : Nat → Nat → PR DS} (hrd : Rd T part) (hp : ∀ i lv q, part i lv = .inr q → i ≤ T → SpS m σ I L ord G (X7_partOf rec) i q.1 q.2.2) (he : EOK (envI m I ord)) {live b0 : Nat} (hl : live ≤ 1) :
    ∀ (r fuel i lv : Nat) (d : DS) (q : Nat × Nat × DS) (v : Int64) (b : Nat), pRow cd isMul part r i lv d = .inr q → i ≤ T → lv ≤ 50 → 500 ≤ r + i → r < fuel → DB d → SV live b0 (d (envI m I ord)) v b →
    ∃ v' b', X7_termOf_c6 rec (some m) (ofN live) fuel v (hw σ (stE m I (G + i) b) L) = some (v', hw σ (stE m I (G + q.1) b') L) ∧ SV live b0 (q.2.2 (envI m I ord)) v' b' := by
  intro r
  have hT1 := hT.1
  induction r with
  | zero => intro fuel i lv d q v b _ hi _ h5; omega
  | succ r ih =>
    intro fuel i lv d q v b hq hi hlv h5 hf hd hs
    obtain ⟨f, rfl⟩ : ∃ f, fuel = f + 1 := ⟨fuel - 1, by omega⟩
    have hc1 := hT.2.2.1 i
    have cA : X7_codeAt (some m) (ofN (G + i)) (hw σ (stE m I (G + i) b) L) = some (ofN (cd i), hw σ (stE m I (G + i) b) L) := E_codeAt h hT hE hi
    have start : X7_termOf_c6 rec (some m) (ofN live) (f + 1) v (hw σ (stE m I (G + i) b) L) = if isMul (cd i) = true then X7_termOf_c54 rec (X7_termOf_c6 rec (some m) (ofN live) f) (some m) (ofN live) v (hw σ (stE m I (G + i) b) L) else some (v, hw σ (stE m I (G + i) b) L) := by
      simp (disch := first | omega | assumption) only [X7_termOf_c6, X7_signOf, stE_25, cA, mgI, mgL, mpI, mpZ0, mpZ1, mpL, mcT, rZ0, rZ1, mR1, mA1, mS1, mR2, mA2, mS2, mR3, mA3, mS3, mR4, mA4, mS4, mR5, mA5, mS5, mR6, mA6, mS6, mR7, mA7, mS7, mR8, mA8, mS8, mR10, mA10, mS10, mR14, mA14, mS14, mR15, mA15, mS15, mR18, mA18, mS18, mR19, mA19, mS19, mR20, mA20, mS20, mR29, mA29, mS29, mR32, mA32, mS32, mR33, mA33, mS33, mR34, mA34, mS34, mR35, mA35, mS35, mR37, mA37, mS37, mR38, mA38, mS38, mR39, mA39, mS39, mR40, mA40, mS40, mR41, mA41, mS41, mR43, mA43, mS43, mR46, mA46, mS46, mR47, mA47, mS47, mR48, mA48, mS48, mR49, mA49, mS49, mR50, mA50, mS50, mR51, mA51, mS51, mR52, mA52, mS52, mR53, mA53, mS53, mR60, mA60, mS60, mR61, mA61, mS61, Option.bind_some, ofN_add, ofN_mul, ofN_sub, ofN_lt, ofN_le, ofN_inj, ofN_dec, ofN_lt_neg, neg_lt_ofN, ofN_le_neg, neg_le_ofN, ofN_eq_neg, neg_eq_ofN, ofN_irm, ofN_div, l0, l1, l2, l3, l4, l5, l6, l7, l8, l9, l10, l11, l12, l13, l14, l15, l16, l17, l18, l19, l20, l21, l22, l23, l24, l25, l26, l27, l28, l29, l30, l31, l32, l33, l34, l35, l36, l37, l38, l39, l40, l41, l42, l43, l44, l45, l46, l47, l48, l49, l50, l51, l52, l53, l54, l55, l56, l57, l58, l59, l60, l61, l62, l63, l64, l65, l66, l67, l68, l69, l70, l71, l72, l73, l74, l75, l76, l77, l78, l79, l80, l81, l82, l83, l84, l85, l86, l87, l88, l89, l90, l91, l92, l93, l94, l95, l96, l97, l98, l99, l100, l101, l102, l103, l104, l105, l106, l107, l108, l109, l110, l111, l112, l113, l114, l115, l116, l117, l118, l119, l120, l121, l122, l123, l124, l125, l126, l127, l128, l129, l130, l131, l196, l200, l245, l255, l368, l369, l370, l382, l383, l384, l385, l386, l387, l388, l394, l395, l400, l401, l617, l738, l800, l999, l1000, l1500, l1600, l2400, l3195, l5920, l5995, l11990, l99999, l1000000, l100000000, l1000000000, l2000000000, l2147483647]
      unfold isMul
      by_cases h1 : cd i = 142
      · rw [if_pos h1, if_pos (decide_eq_true (Or.inl h1))]
      · rw [if_neg h1]
        by_cases h2 : cd i = 147
        · rw [if_pos h2, if_pos (decide_eq_true (Or.inr (Or.inl h2)))]
        · rw [if_neg h2]
          by_cases h3 : cd i = 137
          · rw [if_pos h3, if_pos (decide_eq_true (Or.inr (Or.inr h3)))]
          · rw [if_neg h3, if_neg (by rw [decide_eq_true_eq]; omega)]
    rw [start]
    unfold pRow at hq
    split at hq
    · next hc =>
      rw [if_pos hc]
      have hi2 : i < T := hT.pos (by intro z; rw [z] at hc; cases hc)
      obtain ⟨i', lv', d', e1, e2⟩ := pBd_inr hq
      obtain ⟨a1, a2, a3, a4, a5⟩ := hrd (i + 1) lv _ e1 (by omega)
      dsimp only at a1 a2 a3 a4 a5
      obtain ⟨v', b', e5, s5⟩ := E_c54 h hE hT (k6 := X7_termOf_c6 rec (some m) (ofN live) f) hl hi2 hc (hp (i + 1) lv _ e1 (by omega)) hs hd he
      rw [e5]
      exact ih f i' lv' _ q v' b' e2 a2 a4 (by omega) (by omega) (jn_db hd) s5
    · next hc =>
      rw [if_neg hc]
      cases hq
      exact ⟨v, b, rfl, hs⟩
theorem E_term (h : MSh m σ) (hE : EvC m I ord cd vl G T) (hT : Tk cd vl T) {rec : Option Nat → Int32 → Hp → Option (Int64 × Hp)} {rc : Option (Nat → Nat → PR DS)} (hrd : ∀ r, rc = some r → Rd T r)
    (hrec : ∀ r, rc = some r → ∀ i lv q, r i lv = .inr q → i ≤ T → SpS m σ I L ord G rec i q.1 q.2.2) (he : EOK (envI m I ord)) {i lv : Nat} {q : Nat × Nat × DS} (hq : pTerm ord cd vl rc i lv = .inr q) (hi : i ≤ T) : SpS m σ I L ord G (X7_termOf rec) i q.1 q.2.2 := by
  intro live b hl hb
  unfold pTerm at hq
  obtain ⟨i', lv', d', e1, e2⟩ := pBd_inr hq
  obtain ⟨a1, a2, a3, a4, a5⟩ := pPart_rd hT hrd i lv _ e1 hi
  obtain ⟨v, b1, e3, s3⟩ := E_part h hE hT hrd hrec e1 hi live b hl hb
  obtain ⟨v', b', e5, s5⟩ := E_termF h hE hT (pPart_rd hT hrd) (fun i lv q hq hi => E_part h hE hT hrd hrec hq hi) he hl 500 FUEL i' lv' d' q v b1 e2 a2 a4 (by omega) (by unfold FUEL; omega) a5 s3
  refine ⟨v', b', ?_, s5⟩
  simp (disch := first | omega | assumption) only [X7_termOf, e3, mgI, mgL, mpI, mpZ0, mpZ1, mpL, mcT, rZ0, rZ1, mR1, mA1, mS1, mR2, mA2, mS2, mR3, mA3, mS3, mR4, mA4, mS4, mR5, mA5, mS5, mR6, mA6, mS6, mR7, mA7, mS7, mR8, mA8, mS8, mR10, mA10, mS10, mR14, mA14, mS14, mR15, mA15, mS15, mR18, mA18, mS18, mR19, mA19, mS19, mR20, mA20, mS20, mR29, mA29, mS29, mR32, mA32, mS32, mR33, mA33, mS33, mR34, mA34, mS34, mR35, mA35, mS35, mR37, mA37, mS37, mR38, mA38, mS38, mR39, mA39, mS39, mR40, mA40, mS40, mR41, mA41, mS41, mR43, mA43, mS43, mR46, mA46, mS46, mR47, mA47, mS47, mR48, mA48, mS48, mR49, mA49, mS49, mR50, mA50, mS50, mR51, mA51, mS51, mR52, mA52, mS52, mR53, mA53, mS53, mR60, mA60, mS60, mR61, mA61, mS61, Option.bind_some, ofN_add, ofN_mul, ofN_sub, ofN_lt, ofN_le, ofN_inj, ofN_dec, ofN_lt_neg, neg_lt_ofN, ofN_le_neg, neg_le_ofN, ofN_eq_neg, neg_eq_ofN, ofN_irm, ofN_div, l0, l1, l2, l3, l4, l5, l6, l7, l8, l9, l10, l11, l12, l13, l14, l15, l16, l17, l18, l19, l20, l21, l22, l23, l24, l25, l26, l27, l28, l29, l30, l31, l32, l33, l34, l35, l36, l37, l38, l39, l40, l41, l42, l43, l44, l45, l46, l47, l48, l49, l50, l51, l52, l53, l54, l55, l56, l57, l58, l59, l60, l61, l62, l63, l64, l65, l66, l67, l68, l69, l70, l71, l72, l73, l74, l75, l76, l77, l78, l79, l80, l81, l82, l83, l84, l85, l86, l87, l88, l89, l90, l91, l92, l93, l94, l95, l96, l97, l98, l99, l100, l101, l102, l103, l104, l105, l106, l107, l108, l109, l110, l111, l112, l113, l114, l115, l116, l117, l118, l119, l120, l121, l122, l123, l124, l125, l126, l127, l128, l129, l130, l131, l196, l200, l245, l255, l368, l369, l370, l382, l383, l384, l385, l386, l387, l388, l394, l395, l400, l401, l617, l738, l800, l999, l1000, l1500, l1600, l2400, l3195, l5920, l5995, l11990, l99999, l1000000, l100000000, l1000000000, l2000000000, l2147483647]
  exact e5
theorem E_sumF (h : MSh m σ) (hE : EvC m I ord cd vl G T) (hT : Tk cd vl T) {rec : Option Nat → Int32 → Hp → Option (Int64 × Hp)} {part : Nat → Nat → PR DS} (hrd : Rd T part) (hp : ∀ i lv q, part i lv = .inr q → i ≤ T → SpS m σ I L ord G (X7_termOf rec) i q.1 q.2.2) {live b0 : Nat} (hl : live ≤ 1) :
    ∀ (r fuel i lv : Nat) (d : DS) (q : Nat × Nat × DS) (v : Int64) (b : Nat), pRow cd isAdd part r i lv d = .inr q → i ≤ T → lv ≤ 50 → 500 ≤ r + i → r < fuel → SV live b0 (d (envI m I ord)) v b →
    ∃ v' b', X7_sumOf_c6 rec (some m) (ofN live) fuel v (hw σ (stE m I (G + i) b) L) = some (v', hw σ (stE m I (G + q.1) b') L) ∧ SV live b0 (q.2.2 (envI m I ord)) v' b' := by
  intro r
  have hT1 := hT.1
  induction r with
  | zero => intro fuel i lv d q v b _ hi _ h5; omega
  | succ r ih =>
    intro fuel i lv d q v b hq hi hlv h5 hf hs
    obtain ⟨f, rfl⟩ : ∃ f, fuel = f + 1 := ⟨fuel - 1, by omega⟩
    have hc1 := hT.2.2.1 i
    have cA : X7_codeAt (some m) (ofN (G + i)) (hw σ (stE m I (G + i) b) L) = some (ofN (cd i), hw σ (stE m I (G + i) b) L) := E_codeAt h hT hE hi
    have start : X7_sumOf_c6 rec (some m) (ofN live) (f + 1) v (hw σ (stE m I (G + i) b) L) = if isAdd (cd i) = true then X7_sumOf_c59 rec (X7_sumOf_c6 rec (some m) (ofN live) f) (some m) (ofN live) v (if cd i = 143 then ofN 1 else ofN 0) (hw σ (stE m I (G + i) b) L) else some (v, hw σ (stE m I (G + i) b) L) := by
      simp (disch := first | omega | assumption) only [X7_sumOf_c6, X7_sumOf_c38, X7_signOf, stE_25, cA, mgI, mgL, mpI, mpZ0, mpZ1, mpL, mcT, rZ0, rZ1, mR1, mA1, mS1, mR2, mA2, mS2, mR3, mA3, mS3, mR4, mA4, mS4, mR5, mA5, mS5, mR6, mA6, mS6, mR7, mA7, mS7, mR8, mA8, mS8, mR10, mA10, mS10, mR14, mA14, mS14, mR15, mA15, mS15, mR18, mA18, mS18, mR19, mA19, mS19, mR20, mA20, mS20, mR29, mA29, mS29, mR32, mA32, mS32, mR33, mA33, mS33, mR34, mA34, mS34, mR35, mA35, mS35, mR37, mA37, mS37, mR38, mA38, mS38, mR39, mA39, mS39, mR40, mA40, mS40, mR41, mA41, mS41, mR43, mA43, mS43, mR46, mA46, mS46, mR47, mA47, mS47, mR48, mA48, mS48, mR49, mA49, mS49, mR50, mA50, mS50, mR51, mA51, mS51, mR52, mA52, mS52, mR53, mA53, mS53, mR60, mA60, mS60, mR61, mA61, mS61, Option.bind_some, ofN_add, ofN_mul, ofN_sub, ofN_lt, ofN_le, ofN_inj, ofN_dec, ofN_lt_neg, neg_lt_ofN, ofN_le_neg, neg_le_ofN, ofN_eq_neg, neg_eq_ofN, ofN_irm, ofN_div, l0, l1, l2, l3, l4, l5, l6, l7, l8, l9, l10, l11, l12, l13, l14, l15, l16, l17, l18, l19, l20, l21, l22, l23, l24, l25, l26, l27, l28, l29, l30, l31, l32, l33, l34, l35, l36, l37, l38, l39, l40, l41, l42, l43, l44, l45, l46, l47, l48, l49, l50, l51, l52, l53, l54, l55, l56, l57, l58, l59, l60, l61, l62, l63, l64, l65, l66, l67, l68, l69, l70, l71, l72, l73, l74, l75, l76, l77, l78, l79, l80, l81, l82, l83, l84, l85, l86, l87, l88, l89, l90, l91, l92, l93, l94, l95, l96, l97, l98, l99, l100, l101, l102, l103, l104, l105, l106, l107, l108, l109, l110, l111, l112, l113, l114, l115, l116, l117, l118, l119, l120, l121, l122, l123, l124, l125, l126, l127, l128, l129, l130, l131, l196, l200, l245, l255, l368, l369, l370, l382, l383, l384, l385, l386, l387, l388, l394, l395, l400, l401, l617, l738, l800, l999, l1000, l1500, l1600, l2400, l3195, l5920, l5995, l11990, l99999, l1000000, l100000000, l1000000000, l2000000000, l2147483647]
      unfold isAdd
      by_cases h1 : cd i = 143
      · rw [if_pos h1, if_pos h1, if_pos (decide_eq_true (Or.inl h1)), if_pos h1]
      · rw [if_neg h1, if_neg h1]
        by_cases h2 : cd i = 145
        · rw [if_pos h2, if_pos (decide_eq_true (Or.inr h2)), if_neg h1]
        · rw [if_neg h2, if_neg (by rw [decide_eq_true_eq]; omega)]
    rw [start]
    unfold pRow at hq
    split at hq
    · next hc =>
      rw [if_pos hc]
      have hi2 : i < T := hT.pos (by intro z; rw [z] at hc; cases hc)
      have hc' : cd i = 143 ∨ cd i = 145 := of_decide_eq_true hc
      obtain ⟨i', lv', d', e1, e2⟩ := pBd_inr hq
      obtain ⟨a1, a2, a3, a4, a5⟩ := hrd (i + 1) lv _ e1 (by omega)
      dsimp only at a1 a2 a3 a4 a5
      obtain ⟨w, b1, e3, s3⟩ := hp (i + 1) lv _ e1 (by omega) live b hl hs.1
      obtain ⟨v', b', e5, s5⟩ := E_bounded (L := L) (I := I) h (g := G + i') (b := b1) (live := live) (v := if cd i = 143 then v + w else v - w) s3.1 hl
      have e0 : G + i + 1 = G + (i + 1) := by omega
      have step : X7_sumOf_c59 rec (X7_sumOf_c6 rec (some m) (ofN live) f) (some m) (ofN live) v (if cd i = 143 then ofN 1 else ofN 0) (hw σ (stE m I (G + i) b) L) = X7_sumOf_c6 rec (some m) (ofN live) f v' (hw σ (stE m I (G + i') b') L) := by
        rcases hc' with z | z
        · rw [if_pos z] at e5 ⊢
          simp (disch := first | omega | assumption) only [X7_sumOf_c59, X7_sumOf_c95, stE_25, stE_set25, e0, e3, e5, mgI, mgL, mpI, mpZ0, mpZ1, mpL, mcT, rZ0, rZ1, mR1, mA1, mS1, mR2, mA2, mS2, mR3, mA3, mS3, mR4, mA4, mS4, mR5, mA5, mS5, mR6, mA6, mS6, mR7, mA7, mS7, mR8, mA8, mS8, mR10, mA10, mS10, mR14, mA14, mS14, mR15, mA15, mS15, mR18, mA18, mS18, mR19, mA19, mS19, mR20, mA20, mS20, mR29, mA29, mS29, mR32, mA32, mS32, mR33, mA33, mS33, mR34, mA34, mS34, mR35, mA35, mS35, mR37, mA37, mS37, mR38, mA38, mS38, mR39, mA39, mS39, mR40, mA40, mS40, mR41, mA41, mS41, mR43, mA43, mS43, mR46, mA46, mS46, mR47, mA47, mS47, mR48, mA48, mS48, mR49, mA49, mS49, mR50, mA50, mS50, mR51, mA51, mS51, mR52, mA52, mS52, mR53, mA53, mS53, mR60, mA60, mS60, mR61, mA61, mS61, Option.bind_some, ofN_add, ofN_mul, ofN_sub, ofN_lt, ofN_le, ofN_inj, ofN_dec, ofN_lt_neg, neg_lt_ofN, ofN_le_neg, neg_le_ofN, ofN_eq_neg, neg_eq_ofN, ofN_irm, ofN_div, l0, l1, l2, l3, l4, l5, l6, l7, l8, l9, l10, l11, l12, l13, l14, l15, l16, l17, l18, l19, l20, l21, l22, l23, l24, l25, l26, l27, l28, l29, l30, l31, l32, l33, l34, l35, l36, l37, l38, l39, l40, l41, l42, l43, l44, l45, l46, l47, l48, l49, l50, l51, l52, l53, l54, l55, l56, l57, l58, l59, l60, l61, l62, l63, l64, l65, l66, l67, l68, l69, l70, l71, l72, l73, l74, l75, l76, l77, l78, l79, l80, l81, l82, l83, l84, l85, l86, l87, l88, l89, l90, l91, l92, l93, l94, l95, l96, l97, l98, l99, l100, l101, l102, l103, l104, l105, l106, l107, l108, l109, l110, l111, l112, l113, l114, l115, l116, l117, l118, l119, l120, l121, l122, l123, l124, l125, l126, l127, l128, l129, l130, l131, l196, l200, l245, l255, l368, l369, l370, l382, l383, l384, l385, l386, l387, l388, l394, l395, l400, l401, l617, l738, l800, l999, l1000, l1500, l1600, l2400, l3195, l5920, l5995, l11990, l99999, l1000000, l100000000, l1000000000, l2000000000, l2147483647]
          rw [if_neg (by omega)]
        · rw [if_neg (by omega)] at e5 ⊢
          simp (disch := first | omega | assumption) only [X7_sumOf_c59, X7_sumOf_c95, stE_25, stE_set25, e0, e3, e5, if_true, mgI, mgL, mpI, mpZ0, mpZ1, mpL, mcT, rZ0, rZ1, mR1, mA1, mS1, mR2, mA2, mS2, mR3, mA3, mS3, mR4, mA4, mS4, mR5, mA5, mS5, mR6, mA6, mS6, mR7, mA7, mS7, mR8, mA8, mS8, mR10, mA10, mS10, mR14, mA14, mS14, mR15, mA15, mS15, mR18, mA18, mS18, mR19, mA19, mS19, mR20, mA20, mS20, mR29, mA29, mS29, mR32, mA32, mS32, mR33, mA33, mS33, mR34, mA34, mS34, mR35, mA35, mS35, mR37, mA37, mS37, mR38, mA38, mS38, mR39, mA39, mS39, mR40, mA40, mS40, mR41, mA41, mS41, mR43, mA43, mS43, mR46, mA46, mS46, mR47, mA47, mS47, mR48, mA48, mS48, mR49, mA49, mS49, mR50, mA50, mS50, mR51, mA51, mS51, mR52, mA52, mS52, mR53, mA53, mS53, mR60, mA60, mS60, mR61, mA61, mS61, Option.bind_some, ofN_add, ofN_mul, ofN_sub, ofN_lt, ofN_le, ofN_inj, ofN_dec, ofN_lt_neg, neg_lt_ofN, ofN_le_neg, neg_le_ofN, ofN_eq_neg, neg_eq_ofN, ofN_irm, ofN_div, l0, l1, l2, l3, l4, l5, l6, l7, l8, l9, l10, l11, l12, l13, l14, l15, l16, l17, l18, l19, l20, l21, l22, l23, l24, l25, l26, l27, l28, l29, l30, l31, l32, l33, l34, l35, l36, l37, l38, l39, l40, l41, l42, l43, l44, l45, l46, l47, l48, l49, l50, l51, l52, l53, l54, l55, l56, l57, l58, l59, l60, l61, l62, l63, l64, l65, l66, l67, l68, l69, l70, l71, l72, l73, l74, l75, l76, l77, l78, l79, l80, l81, l82, l83, l84, l85, l86, l87, l88, l89, l90, l91, l92, l93, l94, l95, l96, l97, l98, l99, l100, l101, l102, l103, l104, l105, l106, l107, l108, l109, l110, l111, l112, l113, l114, l115, l116, l117, l118, l119, l120, l121, l122, l123, l124, l125, l126, l127, l128, l129, l130, l131, l196, l200, l245, l255, l368, l369, l370, l382, l383, l384, l385, l386, l387, l388, l394, l395, l400, l401, l617, l738, l800, l999, l1000, l1500, l1600, l2400, l3195, l5920, l5995, l11990, l99999, l1000000, l100000000, l1000000000, l2000000000, l2147483647]
      rw [step]
      refine ih f i' lv' _ q v' b' e2 a2 a4 (by omega) (by omega) ?_
      refine hs.join s3 s5.1 (fun l1 b0z dz => ?_) (fun z => by have := s5.2; rw [if_neg z] at this; exact this)
      by_cases z1 : b1 = 0
      · refine Or.inl ?_
        have := s5.2
        rw [if_pos ⟨l1, z1⟩] at this
        unfold opv
        rcases hc' with z | z
        · rw [if_pos z] at this ⊢
          exact this
        · rw [if_neg (by omega)] at this
          rw [if_neg (by omega), if_pos z]
          exact this
      · exact Or.inr (by have := s3.1; omega)
    · next hc =>
      rw [if_neg hc]
      cases hq
      exact ⟨v, b, rfl, hs⟩
theorem E_sum1 (h : MSh m σ) (hE : EvC m I ord cd vl G T) (hT : Tk cd vl T) {rec : Option Nat → Int32 → Hp → Option (Int64 × Hp)} {rc : Option (Nat → Nat → PR DS)} (hrd : ∀ r, rc = some r → Rd T r)
    (hrec : ∀ r, rc = some r → ∀ i lv q, r i lv = .inr q → i ≤ T → SpS m σ I L ord G rec i q.1 q.2.2) (he : EOK (envI m I ord)) {i lv : Nat} {q : Nat × Nat × DS} (hq : pSum1 ord cd vl rc i lv = .inr q) (hi : i ≤ T) : SpS m σ I L ord G (X7_sumOf_b rec) i q.1 q.2.2 := by
  intro live b hl hb
  unfold pSum1 at hq
  obtain ⟨i', lv', d', e1, e2⟩ := pBd_inr hq
  obtain ⟨a1, a2, a3, a4, a5⟩ := pTerm_rd hT hrd i lv _ e1 hi
  obtain ⟨v, b1, e3, s3⟩ := E_term h hE hT hrd hrec he e1 hi live b hl hb
  obtain ⟨v', b', e5, s5⟩ := E_sumF h hE hT (pTerm_rd hT hrd) (fun i lv q hq hi => E_term h hE hT hrd hrec he hq hi) hl 500 FUEL i' lv' d' q v b1 e2 a2 a4 (by omega) (by unfold FUEL; omega) s3
  refine ⟨v', b', ?_, s5⟩
  simp (disch := first | omega | assumption) only [X7_sumOf_b, e3, mgI, mgL, mpI, mpZ0, mpZ1, mpL, mcT, rZ0, rZ1, mR1, mA1, mS1, mR2, mA2, mS2, mR3, mA3, mS3, mR4, mA4, mS4, mR5, mA5, mS5, mR6, mA6, mS6, mR7, mA7, mS7, mR8, mA8, mS8, mR10, mA10, mS10, mR14, mA14, mS14, mR15, mA15, mS15, mR18, mA18, mS18, mR19, mA19, mS19, mR20, mA20, mS20, mR29, mA29, mS29, mR32, mA32, mS32, mR33, mA33, mS33, mR34, mA34, mS34, mR35, mA35, mS35, mR37, mA37, mS37, mR38, mA38, mS38, mR39, mA39, mS39, mR40, mA40, mS40, mR41, mA41, mS41, mR43, mA43, mS43, mR46, mA46, mS46, mR47, mA47, mS47, mR48, mA48, mS48, mR49, mA49, mS49, mR50, mA50, mS50, mR51, mA51, mS51, mR52, mA52, mS52, mR53, mA53, mS53, mR60, mA60, mS60, mR61, mA61, mS61, Option.bind_some, ofN_add, ofN_mul, ofN_sub, ofN_lt, ofN_le, ofN_inj, ofN_dec, ofN_lt_neg, neg_lt_ofN, ofN_le_neg, neg_le_ofN, ofN_eq_neg, neg_eq_ofN, ofN_irm, ofN_div, l0, l1, l2, l3, l4, l5, l6, l7, l8, l9, l10, l11, l12, l13, l14, l15, l16, l17, l18, l19, l20, l21, l22, l23, l24, l25, l26, l27, l28, l29, l30, l31, l32, l33, l34, l35, l36, l37, l38, l39, l40, l41, l42, l43, l44, l45, l46, l47, l48, l49, l50, l51, l52, l53, l54, l55, l56, l57, l58, l59, l60, l61, l62, l63, l64, l65, l66, l67, l68, l69, l70, l71, l72, l73, l74, l75, l76, l77, l78, l79, l80, l81, l82, l83, l84, l85, l86, l87, l88, l89, l90, l91, l92, l93, l94, l95, l96, l97, l98, l99, l100, l101, l102, l103, l104, l105, l106, l107, l108, l109, l110, l111, l112, l113, l114, l115, l116, l117, l118, l119, l120, l121, l122, l123, l124, l125, l126, l127, l128, l129, l130, l131, l196, l200, l245, l255, l368, l369, l370, l382, l383, l384, l385, l386, l387, l388, l394, l395, l400, l401, l617, l738, l800, l999, l1000, l1500, l1600, l2400, l3195, l5920, l5995, l11990, l99999, l1000000, l100000000, l1000000000, l2000000000, l2147483647]
  exact e5
theorem E_sum (h : MSh m σ) (hE : EvC m I ord cd vl G T) (hT : Tk cd vl T) (he : EOK (envI m I ord)) : ∀ (e n i lv : Nat) (q : Nat × Nat × DS), e < n → pSum ord cd vl e i lv = .inr q → i ≤ T → SpS m σ I L ord G (X7_sumOf n) i q.1 q.2.2
  | 0, n + 1, i, lv, q, _, hq, hi => E_sum1 h hE hT (rec := X7_sumOf n) (fun r hr => by cases hr) (fun r hr => by cases hr) he hq hi
  | e + 1, n + 1, i, lv, q, hn, hq, hi => E_sum1 h hE hT (rec := X7_sumOf n) (fun r hr => by cases hr; exact pSum_rd hT e) (fun r hr => by cases hr; exact fun i lv q h1 h2 => E_sum h hE hT he e n i lv q (by omega) h1 h2) he hq hi
end MTERMS
