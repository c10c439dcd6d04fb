set_option maxRecDepth 100000
/-! THE SYSTEM's TESTS -/
def opD (al : Bool) (t t' : DT) : DT := fun e => (t e).bind fun b => if b = al then t' e else some b
theorem opD_true : opD true = andD := by
  funext t t' e
  unfold opD andD
  cases t e with
  | none => rfl
  | some b => cases b <;> rfl
theorem opD_false : opD false = orD := by
  funext t t' e
  unfold opD orD
  cases t e with
  | none => rfl
  | some b => cases b <;> rfl
def rowD (al : Bool) (ts : Nat → DT) : Nat → DT
  | 0 => fun _ => some al
  | k + 1 => opD al (rowD al ts k) (ts k)
theorem rowD_stop {al : Bool} {ts : Nat → DT} {e : Env} {j : Nat} (h : rowD al ts j e = some (!al)) : ∀ r, rowD al ts (j + r) e = some (!al)
  | 0 => h
  | r + 1 => by
    show opD al (rowD al ts (j + r)) (ts (j + r)) e = _
    unfold opD
    rw [rowD_stop h r]
    cases al <;> rfl
theorem rowD_none {al : Bool} {ts : Nat → DT} {e : Env} {j : Nat} (h : rowD al ts j e = none) : ∀ r, rowD al ts (j + r) e = none
  | 0 => h
  | r + 1 => by
    show opD al (rowD al ts (j + r)) (ts (j + r)) e = _
    unfold opD
    rw [rowD_none h r]
    rfl
def TsX (x lo hi : Nat) (ord : Bool) (τ : Hp) : Nat → Nat → DT → Prop
  | 0, _, _ => False
  | n + 1, a, t => (lo ≤ a ∧ a < hi) ∧
    ((htg τ a = 19 ∧ ∃ p q s d1 d2, (s = 60 ∨ s = 62 ∨ s = 61) ∧ hR τ a 0 = some p ∧ hR τ a 1 = some q ∧ hI τ a 2 = ofN s ∧ SmX x lo hi ord τ 60 p d1 ∧ SmX x lo hi ord τ 60 q d2 ∧ t = cmpD (100 + s) d1 d2) ∨
     (htg τ a = 20 ∧ ∃ p t', hR τ a 0 = some p ∧ TsX x lo hi ord τ n p t' ∧ t = negD true t') ∨
     (htg τ a = 21 ∧ ∃ r k al ts, hR τ a 1 = some r ∧ (lo ≤ r ∧ r < hi) ∧ htg τ r = 111 ∧ hln τ r = k ∧ k < 100 ∧ hI τ a 0 = ofN al.toNat ∧ (∀ i, i < k → ∃ p, hR τ r i = some p ∧ TsX x lo hi ord τ n p (ts i)) ∧ t = rowD al ts k))
theorem TsX.same {x lo hi : Nat} {ord : Bool} {σ τ : Hp} (hs : SameIn lo hi σ τ) : ∀ (n a : Nat) (t : DT), TsX x lo hi ord σ n a t → TsX x lo hi ord τ n a t
  | n + 1, a, d, h => by
    obtain ⟨hr, h⟩ := h
    obtain ⟨e1, -, e2, e3⟩ := hs a hr.1 hr.2
    refine ⟨hr, ?_⟩
    rcases h with ⟨h1, p, q, s, d1, d2, hss, h2, h3, h4, h5, h6, h7⟩ | ⟨h1, p, t', h2, h3, h4⟩ | ⟨h1, r, k, al, ts, h2, h3, h4, h5, h6, h7, h8, h9⟩
    · exact Or.inl ⟨by rw [e1]; exact h1, p, q, s, d1, d2, hss, by rw [e3]; exact h2, by rw [e3]; exact h3, by rw [e2]; exact h4, SmX.same hs 60 p d1 h5, SmX.same hs 60 q d2 h6, h7⟩
    · exact Or.inr (Or.inl ⟨by rw [e1]; exact h1, p, t', by rw [e3]; exact h2, TsX.same hs n p t' h3, h4⟩)
    · obtain ⟨f1, f2, f3, f4⟩ := hs r h3.1 h3.2
      refine Or.inr (Or.inr ⟨by rw [e1]; exact h1, r, k, al, ts, by rw [e3]; exact h2, h3, by rw [f1]; exact h4, by rw [f2]; exact h5, h6, by rw [e2]; exact h7, fun i hi => ?_, h9⟩)
      obtain ⟨p, g1, g2⟩ := h8 i hi
      exact ⟨p, by rw [f4]; exact g1, TsX.same hs n p (ts i) g2⟩
theorem TsX.more {x lo hi : Nat} {ord : Bool} {τ : Hp} : ∀ (n a : Nat) (t : DT), TsX x lo hi ord τ n a t → TsX x lo hi ord τ (n + 1) a t
  | n + 1, a, d, h => by
    obtain ⟨hr, h⟩ := h
    refine ⟨hr, ?_⟩
    rcases h with h | ⟨h1, p, t', h2, h3, h4⟩ | ⟨h1, r, k, al, ts, h2, h3, h4, h5, h6, h7, h8, h9⟩
    · exact Or.inl h
    · exact Or.inr (Or.inl ⟨h1, p, t', h2, TsX.more n p t' h3, h4⟩)
    · refine Or.inr (Or.inr ⟨h1, r, k, al, ts, h2, h3, h4, h5, h6, h7, fun i hi => ?_, h9⟩)
      obtain ⟨p, g1, g2⟩ := h8 i hi
      exact ⟨p, g1, TsX.more n p (ts i) g2⟩
def optZ (o : Option Bool) (z b : Nat) : Prop := (z = 1 ∧ b = 0 ∧ o = some true) ∨ (z = 0 ∧ b = 0 ∧ o = some false) ∨ (z = 0 ∧ b = 1 ∧ o = none)
section XTEST
variable {x c lo hi : Nat} {ord : Bool} {σ : Hp} {I : IM} {L : LM} {e : Env}
theorem V_cmp (hq : AskX x c ord σ I L e) {a p q s : Nat} {d1 d2 : DS} (h1 : htg σ a = 19) (hss : s = 60 ∨ s = 62 ∨ s = 61) (h2 : hR σ a 0 = some p) (h3 : hR σ a 1 = some q) (h4 : I a 2 = ofN s) (h5 : SmX x lo hi ord (hw σ I L) 60 p d1) (h6 : SmX x lo hi ord (hw σ I L) 60 q d2) :
    ∃ z b, X19_of (some a) (some c) (hw σ (stB c I 0) L) = some (ofN z, hw σ (stB c I b) L) ∧ optZ (cmpD (100 + s) d1 d2 e) z b := by
  obtain ⟨v1, b1, g1, o1⟩ := V_sum hq 60 p d1 h5 60 (by omega)
  obtain ⟨v2, b2, g2, o2⟩ := V_sum hq 60 q d2 h6 60 (by omega)
  obtain ⟨⟨hl, htc, hrc, htr, hnr⟩, hw6, hbk, hx0⟩ := hq
  have hac : ∀ a, htg σ a ≠ 5 → a ≠ c := fun a z e => z (e ▸ htc)
  have e2 : ∀ b, stB c I b a 2 = ofN s := fun b => by rw [stB_ne (hac a (by omega))]; exact h4
  rcases o1 with ⟨o1, z1⟩ | ⟨o1, z1⟩ <;> subst z1
  · rcases o2 with ⟨o2, z2⟩ | ⟨o2, z2⟩ <;> subst z2
    · have key : ∀ z : Nat, z ≤ 1 → X19_of_c28 (some a) (some c) v1 v2 (hw σ (stB c I 0) L) = some (ofN z, hw σ (stB c I 0) L) → (z = 1 ↔ (if 100 + s = 160 then decide (v1 < v2) else if 100 + s = 162 then decide (v2 < v1) else decide (v1 = v2)) = true) → ∃ z b, X19_of (some a) (some c) (hw σ (stB c I 0) L) = some (ofN z, hw σ (stB c I b) L) ∧ optZ (cmpD (100 + s) d1 d2 e) z b := by
        intro z hz hc hi
        refine ⟨z, 0, ?_, ?_⟩
        · simp (disch := first | omega | assumption) only [X19_of, nGI, nGR, kgI, stB_1, h2, h3, g1, g2, hc, if_true, Option.bind_some, ofN_add, ofN_mul, ofN_sub, ofN_lt, ofN_le, ofN_inj, ofN_dec, ofN_lt_neg, neg_lt_ofN, ofN_le_neg, neg_le_ofN, ofN_eq_neg, neg_eq_ofN, ofN_irm, ofN_div, l0, l1, l2, l3, l4, l5, l6, l7, l8, l9, l10, l11, l12, l13, l14, l15, l16, l17, l18, l19, l20, l21, l22, l23, l24, l25, l26, l27, l28, l29, l30, l31, l32, l33, l34, l35, l36, l37, l38, l39, l40, l41, l42, l43, l44, l45, l46, l47, l48, l49, l50, l51, l52, l53, l54, l55, l56, l57, l58, l59, l60, l61, l62, l63, l64, l65, l66, l67, l68, l69, l70, l71, l72, l73, l74, l75, l76, l77, l78, l79, l80, l81, l82, l83, l84, l85, l86, l87, l88, l89, l90, l91, l92, l93, l94, l95, l96, l97, l98, l99, l100, l101, l102, l103, l104, l105, l106, l107, l108, l109, l110, l111, l112, l113, l114, l115, l116, l117, l118, l119, l120, l121, l122, l123, l124, l125, l126, l127, l128, l129, l130, l131, l196, l200, l245, l255, l368, l369, l370, l382, l383, l384, l385, l386, l387, l388, l394, l395, l400, l401, l617, l738, l800, l999, l1000, l1500, l1600, l2400, l3195, l5920, l5995, l11990, l99999, l1000000, l100000000, l1000000000, l2000000000, l2147483647]
        · have : cmpD (100 + s) d1 d2 e = some (if 100 + s = 160 then decide (v1 < v2) else if 100 + s = 162 then decide (v2 < v1) else decide (v1 = v2)) := by
            unfold cmpD
            rw [o1, o2]
            rfl
          rw [this]
          by_cases hz1 : z = 1
          · exact Or.inl ⟨hz1, rfl, congrArg some (hi.mp hz1)⟩
          · exact Or.inr (Or.inl ⟨by omega, rfl, congrArg some (by rw [← Bool.not_eq_true]; exact fun w => hz1 (hi.mpr w))⟩)
      rcases hss with z | z | z <;> subst z
      · by_cases hy : v1 < v2
        · refine key 1 (by omega) ?_ (by simp [hy])
          simp (disch := first | omega | assumption) only [X19_of_c28, nGI, kgI, stB_1, e2, if_true, Option.bind_some, ofN_add, ofN_mul, ofN_sub, ofN_lt, ofN_le, ofN_inj, ofN_dec, ofN_lt_neg, neg_lt_ofN, ofN_le_neg, neg_le_ofN, ofN_eq_neg, neg_eq_ofN, ofN_irm, ofN_div, l0, l1, l2, l3, l4, l5, l6, l7, l8, l9, l10, l11, l12, l13, l14, l15, l16, l17, l18, l19, l20, l21, l22, l23, l24, l25, l26, l27, l28, l29, l30, l31, l32, l33, l34, l35, l36, l37, l38, l39, l40, l41, l42, l43, l44, l45, l46, l47, l48, l49, l50, l51, l52, l53, l54, l55, l56, l57, l58, l59, l60, l61, l62, l63, l64, l65, l66, l67, l68, l69, l70, l71, l72, l73, l74, l75, l76, l77, l78, l79, l80, l81, l82, l83, l84, l85, l86, l87, l88, l89, l90, l91, l92, l93, l94, l95, l96, l97, l98, l99, l100, l101, l102, l103, l104, l105, l106, l107, l108, l109, l110, l111, l112, l113, l114, l115, l116, l117, l118, l119, l120, l121, l122, l123, l124, l125, l126, l127, l128, l129, l130, l131, l196, l200, l245, l255, l368, l369, l370, l382, l383, l384, l385, l386, l387, l388, l394, l395, l400, l401, l617, l738, l800, l999, l1000, l1500, l1600, l2400, l3195, l5920, l5995, l11990, l99999, l1000000, l100000000, l1000000000, l2000000000, l2147483647]
          exact if_neg (fun w => Int64.not_le.mpr hy ((lg_cmp_ge v1 v2).mp w))
        · refine key 0 (by omega) ?_ (by simp [hy])
          simp (disch := first | omega | assumption) only [X19_of_c28, nGI, kgI, stB_1, e2, if_true, Option.bind_some, ofN_add, ofN_mul, ofN_sub, ofN_lt, ofN_le, ofN_inj, ofN_dec, ofN_lt_neg, neg_lt_ofN, ofN_le_neg, neg_le_ofN, ofN_eq_neg, neg_eq_ofN, ofN_irm, ofN_div, l0, l1, l2, l3, l4, l5, l6, l7, l8, l9, l10, l11, l12, l13, l14, l15, l16, l17, l18, l19, l20, l21, l22, l23, l24, l25, l26, l27, l28, l29, l30, l31, l32, l33, l34, l35, l36, l37, l38, l39, l40, l41, l42, l43, l44, l45, l46, l47, l48, l49, l50, l51, l52, l53, l54, l55, l56, l57, l58, l59, l60, l61, l62, l63, l64, l65, l66, l67, l68, l69, l70, l71, l72, l73, l74, l75, l76, l77, l78, l79, l80, l81, l82, l83, l84, l85, l86, l87, l88, l89, l90, l91, l92, l93, l94, l95, l96, l97, l98, l99, l100, l101, l102, l103, l104, l105, l106, l107, l108, l109, l110, l111, l112, l113, l114, l115, l116, l117, l118, l119, l120, l121, l122, l123, l124, l125, l126, l127, l128, l129, l130, l131, l196, l200, l245, l255, l368, l369, l370, l382, l383, l384, l385, l386, l387, l388, l394, l395, l400, l401, l617, l738, l800, l999, l1000, l1500, l1600, l2400, l3195, l5920, l5995, l11990, l99999, l1000000, l100000000, l1000000000, l2000000000, l2147483647]
          exact if_pos ((lg_cmp_ge v1 v2).mpr (Int64.not_lt.mp hy))
      · by_cases hy : v2 < v1
        · refine key 1 (by omega) ?_ (by simp [hy])
          simp (disch := first | omega | assumption) only [X19_of_c28, nGI, kgI, stB_1, e2, if_true, if_neg, Option.bind_some, ofN_add, ofN_mul, ofN_sub, ofN_lt, ofN_le, ofN_inj, ofN_dec, ofN_lt_neg, neg_lt_ofN, ofN_le_neg, neg_le_ofN, ofN_eq_neg, neg_eq_ofN, ofN_irm, ofN_div, l0, l1, l2, l3, l4, l5, l6, l7, l8, l9, l10, l11, l12, l13, l14, l15, l16, l17, l18, l19, l20, l21, l22, l23, l24, l25, l26, l27, l28, l29, l30, l31, l32, l33, l34, l35, l36, l37, l38, l39, l40, l41, l42, l43, l44, l45, l46, l47, l48, l49, l50, l51, l52, l53, l54, l55, l56, l57, l58, l59, l60, l61, l62, l63, l64, l65, l66, l67, l68, l69, l70, l71, l72, l73, l74, l75, l76, l77, l78, l79, l80, l81, l82, l83, l84, l85, l86, l87, l88, l89, l90, l91, l92, l93, l94, l95, l96, l97, l98, l99, l100, l101, l102, l103, l104, l105, l106, l107, l108, l109, l110, l111, l112, l113, l114, l115, l116, l117, l118, l119, l120, l121, l122, l123, l124, l125, l126, l127, l128, l129, l130, l131, l196, l200, l245, l255, l368, l369, l370, l382, l383, l384, l385, l386, l387, l388, l394, l395, l400, l401, l617, l738, l800, l999, l1000, l1500, l1600, l2400, l3195, l5920, l5995, l11990, l99999, l1000000, l100000000, l1000000000, l2000000000, l2147483647]
          exact if_neg (fun w => Int64.not_le.mpr hy ((lg_cmp_le v1 v2).mp w))
        · refine key 0 (by omega) ?_ (by simp [hy])
          simp (disch := first | omega | assumption) only [X19_of_c28, nGI, kgI, stB_1, e2, if_true, if_neg, Option.bind_some, ofN_add, ofN_mul, ofN_sub, ofN_lt, ofN_le, ofN_inj, ofN_dec, ofN_lt_neg, neg_lt_ofN, ofN_le_neg, neg_le_ofN, ofN_eq_neg, neg_eq_ofN, ofN_irm, ofN_div, l0, l1, l2, l3, l4, l5, l6, l7, l8, l9, l10, l11, l12, l13, l14, l15, l16, l17, l18, l19, l20, l21, l22, l23, l24, l25, l26, l27, l28, l29, l30, l31, l32, l33, l34, l35, l36, l37, l38, l39, l40, l41, l42, l43, l44, l45, l46, l47, l48, l49, l50, l51, l52, l53, l54, l55, l56, l57, l58, l59, l60, l61, l62, l63, l64, l65, l66, l67, l68, l69, l70, l71, l72, l73, l74, l75, l76, l77, l78, l79, l80, l81, l82, l83, l84, l85, l86, l87, l88, l89, l90, l91, l92, l93, l94, l95, l96, l97, l98, l99, l100, l101, l102, l103, l104, l105, l106, l107, l108, l109, l110, l111, l112, l113, l114, l115, l116, l117, l118, l119, l120, l121, l122, l123, l124, l125, l126, l127, l128, l129, l130, l131, l196, l200, l245, l255, l368, l369, l370, l382, l383, l384, l385, l386, l387, l388, l394, l395, l400, l401, l617, l738, l800, l999, l1000, l1500, l1600, l2400, l3195, l5920, l5995, l11990, l99999, l1000000, l100000000, l1000000000, l2000000000, l2147483647]
          exact if_pos ((lg_cmp_le v1 v2).mpr (Int64.not_lt.mp hy))
      · by_cases hy : v1 = v2
        · refine key 1 (by omega) ?_ (by simp [hy])
          simp (disch := first | omega | assumption) only [X19_of_c28, nGI, kgI, stB_1, e2, if_true, if_neg, Option.bind_some, ofN_add, ofN_mul, ofN_sub, ofN_lt, ofN_le, ofN_inj, ofN_dec, ofN_lt_neg, neg_lt_ofN, ofN_le_neg, neg_le_ofN, ofN_eq_neg, neg_eq_ofN, ofN_irm, ofN_div, l0, l1, l2, l3, l4, l5, l6, l7, l8, l9, l10, l11, l12, l13, l14, l15, l16, l17, l18, l19, l20, l21, l22, l23, l24, l25, l26, l27, l28, l29, l30, l31, l32, l33, l34, l35, l36, l37, l38, l39, l40, l41, l42, l43, l44, l45, l46, l47, l48, l49, l50, l51, l52, l53, l54, l55, l56, l57, l58, l59, l60, l61, l62, l63, l64, l65, l66, l67, l68, l69, l70, l71, l72, l73, l74, l75, l76, l77, l78, l79, l80, l81, l82, l83, l84, l85, l86, l87, l88, l89, l90, l91, l92, l93, l94, l95, l96, l97, l98, l99, l100, l101, l102, l103, l104, l105, l106, l107, l108, l109, l110, l111, l112, l113, l114, l115, l116, l117, l118, l119, l120, l121, l122, l123, l124, l125, l126, l127, l128, l129, l130, l131, l196, l200, l245, l255, l368, l369, l370, l382, l383, l384, l385, l386, l387, l388, l394, l395, l400, l401, l617, l738, l800, l999, l1000, l1500, l1600, l2400, l3195, l5920, l5995, l11990, l99999, l1000000, l100000000, l1000000000, l2000000000, l2147483647]
          exact if_pos ((lg_cmp_eq v1 v2).mpr hy)
        · refine key 0 (by omega) ?_ (by simp [hy])
          simp (disch := first | omega | assumption) only [X19_of_c28, nGI, kgI, stB_1, e2, if_true, if_neg, Option.bind_some, ofN_add, ofN_mul, ofN_sub, ofN_lt, ofN_le, ofN_inj, ofN_dec, ofN_lt_neg, neg_lt_ofN, ofN_le_neg, neg_le_ofN, ofN_eq_neg, neg_eq_ofN, ofN_irm, ofN_div, l0, l1, l2, l3, l4, l5, l6, l7, l8, l9, l10, l11, l12, l13, l14, l15, l16, l17, l18, l19, l20, l21, l22, l23, l24, l25, l26, l27, l28, l29, l30, l31, l32, l33, l34, l35, l36, l37, l38, l39, l40, l41, l42, l43, l44, l45, l46, l47, l48, l49, l50, l51, l52, l53, l54, l55, l56, l57, l58, l59, l60, l61, l62, l63, l64, l65, l66, l67, l68, l69, l70, l71, l72, l73, l74, l75, l76, l77, l78, l79, l80, l81, l82, l83, l84, l85, l86, l87, l88, l89, l90, l91, l92, l93, l94, l95, l96, l97, l98, l99, l100, l101, l102, l103, l104, l105, l106, l107, l108, l109, l110, l111, l112, l113, l114, l115, l116, l117, l118, l119, l120, l121, l122, l123, l124, l125, l126, l127, l128, l129, l130, l131, l196, l200, l245, l255, l368, l369, l370, l382, l383, l384, l385, l386, l387, l388, l394, l395, l400, l401, l617, l738, l800, l999, l1000, l1500, l1600, l2400, l3195, l5920, l5995, l11990, l99999, l1000000, l100000000, l1000000000, l2000000000, l2147483647]
          exact if_neg (fun w => hy ((lg_cmp_eq v1 v2).mp w))
    · refine ⟨0, 1, ?_, Or.inr (Or.inr ⟨rfl, rfl, by unfold cmpD; rw [o1, o2]; rfl⟩)⟩
      simp (disch := first | omega | assumption) only [X19_of, X19_of_c28, nGI, nGR, kgI, stB_1, h2, h3, g1, g2, if_true, if_neg, Option.bind_some, ofN_add, ofN_mul, ofN_sub, ofN_lt, ofN_le, ofN_inj, ofN_dec, ofN_lt_neg, neg_lt_ofN, ofN_le_neg, neg_le_ofN, ofN_eq_neg, neg_eq_ofN, ofN_irm, ofN_div, l0, l1, l2, l3, l4, l5, l6, l7, l8, l9, l10, l11, l12, l13, l14, l15, l16, l17, l18, l19, l20, l21, l22, l23, l24, l25, l26, l27, l28, l29, l30, l31, l32, l33, l34, l35, l36, l37, l38, l39, l40, l41, l42, l43, l44, l45, l46, l47, l48, l49, l50, l51, l52, l53, l54, l55, l56, l57, l58, l59, l60, l61, l62, l63, l64, l65, l66, l67, l68, l69, l70, l71, l72, l73, l74, l75, l76, l77, l78, l79, l80, l81, l82, l83, l84, l85, l86, l87, l88, l89, l90, l91, l92, l93, l94, l95, l96, l97, l98, l99, l100, l101, l102, l103, l104, l105, l106, l107, l108, l109, l110, l111, l112, l113, l114, l115, l116, l117, l118, l119, l120, l121, l122, l123, l124, l125, l126, l127, l128, l129, l130, l131, l196, l200, l245, l255, l368, l369, l370, l382, l383, l384, l385, l386, l387, l388, l394, l395, l400, l401, l617, l738, l800, l999, l1000, l1500, l1600, l2400, l3195, l5920, l5995, l11990, l99999, l1000000, l100000000, l1000000000, l2000000000, l2147483647]
  · refine ⟨0, 1, ?_, Or.inr (Or.inr ⟨rfl, rfl, by unfold cmpD; rw [o1]; rfl⟩)⟩
    simp (disch := first | omega | assumption) only [X19_of, X19_of_c28, nGI, nGR, kgI, stB_1, h2, h3, g1, g2, if_true, if_neg, Option.bind_some, ofN_add, ofN_mul, ofN_sub, ofN_lt, ofN_le, ofN_inj, ofN_dec, ofN_lt_neg, neg_lt_ofN, ofN_le_neg, neg_le_ofN, ofN_eq_neg, neg_eq_ofN, ofN_irm, ofN_div, l0, l1, l2, l3, l4, l5, l6, l7, l8, l9, l10, l11, l12, l13, l14, l15, l16, l17, l18, l19, l20, l21, l22, l23, l24, l25, l26, l27, l28, l29, l30, l31, l32, l33, l34, l35, l36, l37, l38, l39, l40, l41, l42, l43, l44, l45, l46, l47, l48, l49, l50, l51, l52, l53, l54, l55, l56, l57, l58, l59, l60, l61, l62, l63, l64, l65, l66, l67, l68, l69, l70, l71, l72, l73, l74, l75, l76, l77, l78, l79, l80, l81, l82, l83, l84, l85, l86, l87, l88, l89, l90, l91, l92, l93, l94, l95, l96, l97, l98, l99, l100, l101, l102, l103, l104, l105, l106, l107, l108, l109, l110, l111, l112, l113, l114, l115, l116, l117, l118, l119, l120, l121, l122, l123, l124, l125, l126, l127, l128, l129, l130, l131, l196, l200, l245, l255, l368, l369, l370, l382, l383, l384, l385, l386, l387, l388, l394, l395, l400, l401, l617, l738, l800, l999, l1000, l1500, l1600, l2400, l3195, l5920, l5995, l11990, l99999, l1000000, l100000000, l1000000000, l2000000000, l2147483647]
theorem V_rowF (h : htg σ c = 5) {rec : Option Nat → Option Nat → Hp → Option (Int32 × Hp)} {a r K : Nat} {al : Bool} {ts : Nat → DT} (h1 : htg σ a = 21) (h4 : htg σ r = 111) (h5 : hln σ r = K) (hK : K < 100) (h7 : I a 0 = ofN al.toNat)
    (h8 : ∀ i, i < K → ∃ p z b, hR σ r i = some p ∧ rec (some p) (some c) (hw σ (stB c I 0) L) = some (ofN z, hw σ (stB c I b) L) ∧ optZ (ts i e) z b) {k49 k68 : Hp → Option (Int32 × Hp)} : ∀ (n j fuel : Nat), j + n = K → n < fuel → rowD al ts j e = some al →
    ∃ z b, X21_of_c11 rec (some a) (some c) (some r) (ofN K) k49 k68 fuel (ofN j) (hw σ (stB c I 0) L) = (if z = 2 then some (ofN 0, hw σ (stB c I b) L) else if z = 1 then k68 (hw σ (stB c I b) L) else k49 (hw σ (stB c I b) L)) ∧ ((z = 2 ∧ b = 1 ∧ rowD al ts K e = none) ∨ (z = 1 ∧ b = 0 ∧ rowD al ts K e = some al) ∨ (z = 0 ∧ b = 0 ∧ rowD al ts K e = some (!al))) := by
  have hac : a ≠ c := fun z => by rw [z] at h1; omega
  have e2 : ∀ b, stB c I b a 0 = ofN al.toNat := fun b => by rw [stB_ne hac]; exact h7
  have ha1 : al.toNat ≤ 1 := by cases al <;> decide
  intro n
  induction n with
  | zero =>
    intro j fuel hj hf hr
    obtain ⟨f, rfl⟩ : ∃ f, fuel = f + 1 := ⟨fuel - 1, by omega⟩
    refine ⟨1, 0, ?_, Or.inr (Or.inl ⟨rfl, rfl, by rw [show K = j by omega]; exact hr⟩)⟩
    simp (disch := first | omega | assumption) only [X21_of_c11, if_pos, if_neg, if_true, Option.bind_some, ofN_add, ofN_mul, ofN_sub, ofN_lt, ofN_le, ofN_inj, ofN_dec, ofN_lt_neg, neg_lt_ofN, ofN_le_neg, neg_le_ofN, ofN_eq_neg, neg_eq_ofN, ofN_irm, ofN_div, l0, l1, l2, l3, l4, l5, l6, l7, l8, l9, l10, l11, l12, l13, l14, l15, l16, l17, l18, l19, l20, l21, l22, l23, l24, l25, l26, l27, l28, l29, l30, l31, l32, l33, l34, l35, l36, l37, l38, l39, l40, l41, l42, l43, l44, l45, l46, l47, l48, l49, l50, l51, l52, l53, l54, l55, l56, l57, l58, l59, l60, l61, l62, l63, l64, l65, l66, l67, l68, l69, l70, l71, l72, l73, l74, l75, l76, l77, l78, l79, l80, l81, l82, l83, l84, l85, l86, l87, l88, l89, l90, l91, l92, l93, l94, l95, l96, l97, l98, l99, l100, l101, l102, l103, l104, l105, l106, l107, l108, l109, l110, l111, l112, l113, l114, l115, l116, l117, l118, l119, l120, l121, l122, l123, l124, l125, l126, l127, l128, l129, l130, l131, l196, l200, l245, l255, l368, l369, l370, l382, l383, l384, l385, l386, l387, l388, l394, l395, l400, l401, l617, l738, l800, l999, l1000, l1500, l1600, l2400, l3195, l5920, l5995, l11990, l99999, l1000000, l100000000, l1000000000, l2000000000, l2147483647]
  | succ n ih =>
    intro j fuel hj hf hr
    obtain ⟨f, rfl⟩ : ∃ f, fuel = f + 1 := ⟨fuel - 1, by omega⟩
    obtain ⟨p, z, b, g1, g2, g3⟩ := h8 j (by omega)
    have hr1 : rowD al ts (j + 1) e = ts j e := by
      show opD al (rowD al ts j) (ts j) e = _
      unfold opD
      rw [hr]
      exact if_pos rfl
    have hz1 : z ≤ 1 := by rcases g3 with ⟨y, -⟩ | ⟨y, -⟩ | ⟨y, -⟩ <;> omega
    have hb1 : b ≤ 1 := by rcases g3 with ⟨-, y, -⟩ | ⟨-, y, -⟩ | ⟨-, y, -⟩ <;> omega
    have haR : ∀ I' : IM, aR 11 (hw σ I' L) (some r) (ofN j) = some (some p) := fun I' => (aR_hw h4 (by omega) (by omega)).trans (congrArg some g1)
    rw [X21_of_c11]
    simp (disch := first | omega | assumption) only [haR, g2, nGI, kgI, stB_1, e2, Option.bind_some, ofN_add, ofN_mul, ofN_sub, ofN_lt, ofN_le, ofN_inj, ofN_dec, ofN_lt_neg, neg_lt_ofN, ofN_le_neg, neg_le_ofN, ofN_eq_neg, neg_eq_ofN, ofN_irm, ofN_div, l0, l1, l2, l3, l4, l5, l6, l7, l8, l9, l10, l11, l12, l13, l14, l15, l16, l17, l18, l19, l20, l21, l22, l23, l24, l25, l26, l27, l28, l29, l30, l31, l32, l33, l34, l35, l36, l37, l38, l39, l40, l41, l42, l43, l44, l45, l46, l47, l48, l49, l50, l51, l52, l53, l54, l55, l56, l57, l58, l59, l60, l61, l62, l63, l64, l65, l66, l67, l68, l69, l70, l71, l72, l73, l74, l75, l76, l77, l78, l79, l80, l81, l82, l83, l84, l85, l86, l87, l88, l89, l90, l91, l92, l93, l94, l95, l96, l97, l98, l99, l100, l101, l102, l103, l104, l105, l106, l107, l108, l109, l110, l111, l112, l113, l114, l115, l116, l117, l118, l119, l120, l121, l122, l123, l124, l125, l126, l127, l128, l129, l130, l131, l196, l200, l245, l255, l368, l369, l370, l382, l383, l384, l385, l386, l387, l388, l394, l395, l400, l401, l617, l738, l800, l999, l1000, l1500, l1600, l2400, l3195, l5920, l5995, l11990, l99999, l1000000, l100000000, l1000000000, l2000000000, l2147483647]
    rw [if_neg (by omega)]
    have go : ∀ (bo : Bool), z = bo.toNat → b = 0 → ts j e = some bo → ∃ z' b', (if b = 0 then (if z = al.toNat then X21_of_c11 rec (some a) (some c) (some r) (ofN K) k49 k68 f (ofN (j + 1)) (hw σ (stB c I b) L) else k49 (hw σ (stB c I b) L)) else some (ofN 0, hw σ (stB c I b) L)) = (if z' = 2 then some (ofN 0, hw σ (stB c I b') L) else if z' = 1 then k68 (hw σ (stB c I b') L) else k49 (hw σ (stB c I b') L)) ∧ ((z' = 2 ∧ b' = 1 ∧ rowD al ts K e = none) ∨ (z' = 1 ∧ b' = 0 ∧ rowD al ts K e = some al) ∨ (z' = 0 ∧ b' = 0 ∧ rowD al ts K e = some (!al))) := by
      intro bo hzb hb0 ht
      subst hb0
      rw [if_pos rfl]
      by_cases hy : bo = al
      · rw [if_pos (by rw [hzb, hy])]
        exact ih (j + 1) f (by omega) (by omega) (by rw [hr1, ht, hy])
      · rw [if_neg (by rw [hzb]; cases bo <;> cases al <;> simp_all)]
        have hno : bo = !al := by cases bo <;> cases al <;> simp_all
        refine ⟨0, 0, by rw [if_neg (by omega), if_neg (by omega)], Or.inr (Or.inr ⟨rfl, rfl, ?_⟩)⟩
        have := rowD_stop (al := al) (ts := ts) (e := e) (j := j + 1) (by rw [hr1, ht, hno]) n
        rw [show j + 1 + n = K by omega] at this
        exact this
    rcases g3 with ⟨y1, y2, y3⟩ | ⟨y1, y2, y3⟩ | ⟨y1, y2, y3⟩
    · exact go true y1 y2 y3
    · exact go false y1 y2 y3
    · refine ⟨2, 1, ?_, Or.inl ⟨rfl, rfl, ?_⟩⟩
      · subst y2
        rw [if_neg (by omega)]
        rfl
      · have := rowD_none (al := al) (ts := ts) (e := e) (j := j + 1) (by rw [hr1, y3]) n
        rw [show j + 1 + n = K by omega] at this
        exact this
theorem V_test (hq : AskX x c ord σ I L e) : ∀ (n a : Nat) (t : DT), TsX x lo hi ord (hw σ I L) n a t → ∀ k, n ≤ k → ∃ z b, vTest k (some a) (some c) (hw σ (stB c I 0) L) = some (ofN z, hw σ (stB c I b) L) ∧ optZ (t e) z b
  | n + 1, a, t, h, k, hk => by
    obtain ⟨k, rfl⟩ : ∃ k', k = k' + 1 := ⟨k - 1, by omega⟩
    have ih := fun (a : Nat) (t : DT) (h : TsX x lo hi ord (hw σ I L) n a t) => V_test hq n a t h k (by omega)
    have htc : htg σ c = 5 := hq.1.2.1
    obtain ⟨hr, h⟩ := h
    show ∃ z b, (if htg σ a = 19 then X19_of (some a) (some c) (hw σ (stB c I 0) L) else if htg σ a = 20 then X20_of (vTest k) (some a) (some c) (hw σ (stB c I 0) L) else if htg σ a = 21 then X21_of (vTest k) (some a) (some c) (hw σ (stB c I 0) L) else none) = some (ofN z, hw σ (stB c I b) L) ∧ optZ (t e) z b
    rcases h with ⟨h1, p, q, s, d1, d2, hss, h2, h3, h4, h5, h6, h7⟩ | ⟨h1, p, t', h2, h3, h4⟩ | ⟨h1, r, K, al, ts, h2, h3, h4, h5, h6, h7, h8, h9⟩
    · replace h1 : htg σ a = 19 := h1
      rw [if_pos h1, h7]
      exact V_cmp hq h1 hss h2 h3 h4 h5 h6
    · replace h1 : htg σ a = 20 := h1
      replace h2 : hR σ a 0 = some p := h2
      rw [if_neg (by omega), if_pos h1, h4]
      obtain ⟨z, b, g1, g2⟩ := ih p t' h3
      have en : negD true t' e = (t' e).map (!·) := rfl
      rw [en]
      rcases g2 with ⟨y1, y2, y3⟩ | ⟨y1, y2, y3⟩ | ⟨y1, y2, y3⟩ <;> subst y1 y2 <;> rw [y3]
      · refine ⟨0, 0, ?_, Or.inr (Or.inl ⟨rfl, rfl, rfl⟩)⟩
        simp (disch := first | omega | assumption) only [X20_of, nGR, h2, g1, if_neg, Option.bind_some, ofN_add, ofN_mul, ofN_sub, ofN_lt, ofN_le, ofN_inj, ofN_dec, ofN_lt_neg, neg_lt_ofN, ofN_le_neg, neg_le_ofN, ofN_eq_neg, neg_eq_ofN, ofN_irm, ofN_div, l0, l1, l2, l3, l4, l5, l6, l7, l8, l9, l10, l11, l12, l13, l14, l15, l16, l17, l18, l19, l20, l21, l22, l23, l24, l25, l26, l27, l28, l29, l30, l31, l32, l33, l34, l35, l36, l37, l38, l39, l40, l41, l42, l43, l44, l45, l46, l47, l48, l49, l50, l51, l52, l53, l54, l55, l56, l57, l58, l59, l60, l61, l62, l63, l64, l65, l66, l67, l68, l69, l70, l71, l72, l73, l74, l75, l76, l77, l78, l79, l80, l81, l82, l83, l84, l85, l86, l87, l88, l89, l90, l91, l92, l93, l94, l95, l96, l97, l98, l99, l100, l101, l102, l103, l104, l105, l106, l107, l108, l109, l110, l111, l112, l113, l114, l115, l116, l117, l118, l119, l120, l121, l122, l123, l124, l125, l126, l127, l128, l129, l130, l131, l196, l200, l245, l255, l368, l369, l370, l382, l383, l384, l385, l386, l387, l388, l394, l395, l400, l401, l617, l738, l800, l999, l1000, l1500, l1600, l2400, l3195, l5920, l5995, l11990, l99999, l1000000, l100000000, l1000000000, l2000000000, l2147483647]
      · refine ⟨1, 0, ?_, Or.inl ⟨rfl, rfl, rfl⟩⟩
        simp (disch := first | omega | assumption) only [X20_of, nGR, kgI, stB_1, h2, g1, if_true, Option.bind_some, ofN_add, ofN_mul, ofN_sub, ofN_lt, ofN_le, ofN_inj, ofN_dec, ofN_lt_neg, neg_lt_ofN, ofN_le_neg, neg_le_ofN, ofN_eq_neg, neg_eq_ofN, ofN_irm, ofN_div, l0, l1, l2, l3, l4, l5, l6, l7, l8, l9, l10, l11, l12, l13, l14, l15, l16, l17, l18, l19, l20, l21, l22, l23, l24, l25, l26, l27, l28, l29, l30, l31, l32, l33, l34, l35, l36, l37, l38, l39, l40, l41, l42, l43, l44, l45, l46, l47, l48, l49, l50, l51, l52, l53, l54, l55, l56, l57, l58, l59, l60, l61, l62, l63, l64, l65, l66, l67, l68, l69, l70, l71, l72, l73, l74, l75, l76, l77, l78, l79, l80, l81, l82, l83, l84, l85, l86, l87, l88, l89, l90, l91, l92, l93, l94, l95, l96, l97, l98, l99, l100, l101, l102, l103, l104, l105, l106, l107, l108, l109, l110, l111, l112, l113, l114, l115, l116, l117, l118, l119, l120, l121, l122, l123, l124, l125, l126, l127, l128, l129, l130, l131, l196, l200, l245, l255, l368, l369, l370, l382, l383, l384, l385, l386, l387, l388, l394, l395, l400, l401, l617, l738, l800, l999, l1000, l1500, l1600, l2400, l3195, l5920, l5995, l11990, l99999, l1000000, l100000000, l1000000000, l2000000000, l2147483647]
      · refine ⟨0, 1, ?_, Or.inr (Or.inr ⟨rfl, rfl, rfl⟩)⟩
        simp (disch := first | omega | assumption) only [X20_of, nGR, kgI, stB_1, h2, g1, if_true, if_neg, Option.bind_some, ofN_add, ofN_mul, ofN_sub, ofN_lt, ofN_le, ofN_inj, ofN_dec, ofN_lt_neg, neg_lt_ofN, ofN_le_neg, neg_le_ofN, ofN_eq_neg, neg_eq_ofN, ofN_irm, ofN_div, l0, l1, l2, l3, l4, l5, l6, l7, l8, l9, l10, l11, l12, l13, l14, l15, l16, l17, l18, l19, l20, l21, l22, l23, l24, l25, l26, l27, l28, l29, l30, l31, l32, l33, l34, l35, l36, l37, l38, l39, l40, l41, l42, l43, l44, l45, l46, l47, l48, l49, l50, l51, l52, l53, l54, l55, l56, l57, l58, l59, l60, l61, l62, l63, l64, l65, l66, l67, l68, l69, l70, l71, l72, l73, l74, l75, l76, l77, l78, l79, l80, l81, l82, l83, l84, l85, l86, l87, l88, l89, l90, l91, l92, l93, l94, l95, l96, l97, l98, l99, l100, l101, l102, l103, l104, l105, l106, l107, l108, l109, l110, l111, l112, l113, l114, l115, l116, l117, l118, l119, l120, l121, l122, l123, l124, l125, l126, l127, l128, l129, l130, l131, l196, l200, l245, l255, l368, l369, l370, l382, l383, l384, l385, l386, l387, l388, l394, l395, l400, l401, l617, l738, l800, l999, l1000, l1500, l1600, l2400, l3195, l5920, l5995, l11990, l99999, l1000000, l100000000, l1000000000, l2000000000, l2147483647]
    · replace h1 : htg σ a = 21 := h1
      replace h2 : hR σ a 1 = some r := h2
      replace h4 : htg σ r = 111 := h4
      replace h5 : hln σ r = K := h5
      rw [if_neg (by omega), if_neg (by omega), if_pos h1, h9]
      have hac : a ≠ c := fun z => by rw [z] at h1; omega
      have e2 : ∀ b, stB c I b a 0 = ofN al.toNat := fun b => by rw [stB_ne hac]; exact h7
      have h8' : ∀ i, i < K → ∃ p z b, hR σ r i = some p ∧ vTest k (some p) (some c) (hw σ (stB c I 0) L) = some (ofN z, hw σ (stB c I b) L) ∧ optZ (ts i e) z b := by
        intro i hi
        obtain ⟨p, w1, w2⟩ := h8 i hi
        obtain ⟨z, b, w3, w4⟩ := ih p (ts i) w2
        exact ⟨p, z, b, w1, w3, w4⟩
      have hN : aN (hw σ (stB c I 0) L) (some r) = some (ofN K) := by rw [aN_hw (by omega) (by omega), h5]
      rw [X21_of]
      simp (disch := first | omega | assumption) only [nGR, h2, hN, Option.bind_some]
      obtain ⟨z, b, f1, f2⟩ := V_rowF (I := I) (L := L) (e := e) htc h1 h4 h5 h6 h7 h8' (k49 := fun τ3 => (gI τ3 (some a) [21] 0).bind fun v4 => if v4 = 0 then some ((1 : Int32), τ3) else some ((0 : Int32), τ3)) (k68 := fun τ8 => (gI τ8 (some a) [21] 0).bind fun v9 => rZ v9 τ8) K 0 FUEL (by omega) (by unfold FUEL; omega) rfl
      rw [show ((0 : Int32)) = ofN 0 from rfl] at f1 ⊢
      rw [f1]
      rcases f2 with ⟨y1, y2, y3⟩ | ⟨y1, y2, y3⟩ | ⟨y1, y2, y3⟩ <;> subst y1 y2 <;> rw [y3]
      · exact ⟨0, 1, rfl, Or.inr (Or.inr ⟨rfl, rfl, rfl⟩)⟩
      · rw [if_neg (by omega), if_pos rfl]
        simp (disch := first | omega | assumption) only [nGI, e2, Option.bind_some, ofN_add, ofN_mul, ofN_sub, ofN_lt, ofN_le, ofN_inj, ofN_dec, ofN_lt_neg, neg_lt_ofN, ofN_le_neg, neg_le_ofN, ofN_eq_neg, neg_eq_ofN, ofN_irm, ofN_div, l0, l1, l2, l3, l4, l5, l6, l7, l8, l9, l10, l11, l12, l13, l14, l15, l16, l17, l18, l19, l20, l21, l22, l23, l24, l25, l26, l27, l28, l29, l30, l31, l32, l33, l34, l35, l36, l37, l38, l39, l40, l41, l42, l43, l44, l45, l46, l47, l48, l49, l50, l51, l52, l53, l54, l55, l56, l57, l58, l59, l60, l61, l62, l63, l64, l65, l66, l67, l68, l69, l70, l71, l72, l73, l74, l75, l76, l77, l78, l79, l80, l81, l82, l83, l84, l85, l86, l87, l88, l89, l90, l91, l92, l93, l94, l95, l96, l97, l98, l99, l100, l101, l102, l103, l104, l105, l106, l107, l108, l109, l110, l111, l112, l113, l114, l115, l116, l117, l118, l119, l120, l121, l122, l123, l124, l125, l126, l127, l128, l129, l130, l131, l196, l200, l245, l255, l368, l369, l370, l382, l383, l384, l385, l386, l387, l388, l394, l395, l400, l401, l617, l738, l800, l999, l1000, l1500, l1600, l2400, l3195, l5920, l5995, l11990, l99999, l1000000, l100000000, l1000000000, l2000000000, l2147483647]
        cases al
        · exact ⟨0, 0, rZ0, Or.inr (Or.inl ⟨rfl, rfl, rfl⟩)⟩
        · exact ⟨1, 0, rZ1, Or.inl ⟨rfl, rfl, rfl⟩⟩
      · rw [if_neg (by omega), if_neg (by omega)]
        simp (disch := first | omega | assumption) only [nGI, e2, Option.bind_some, ofN_add, ofN_mul, ofN_sub, ofN_lt, ofN_le, ofN_inj, ofN_dec, ofN_lt_neg, neg_lt_ofN, ofN_le_neg, neg_le_ofN, ofN_eq_neg, neg_eq_ofN, ofN_irm, ofN_div, l0, l1, l2, l3, l4, l5, l6, l7, l8, l9, l10, l11, l12, l13, l14, l15, l16, l17, l18, l19, l20, l21, l22, l23, l24, l25, l26, l27, l28, l29, l30, l31, l32, l33, l34, l35, l36, l37, l38, l39, l40, l41, l42, l43, l44, l45, l46, l47, l48, l49, l50, l51, l52, l53, l54, l55, l56, l57, l58, l59, l60, l61, l62, l63, l64, l65, l66, l67, l68, l69, l70, l71, l72, l73, l74, l75, l76, l77, l78, l79, l80, l81, l82, l83, l84, l85, l86, l87, l88, l89, l90, l91, l92, l93, l94, l95, l96, l97, l98, l99, l100, l101, l102, l103, l104, l105, l106, l107, l108, l109, l110, l111, l112, l113, l114, l115, l116, l117, l118, l119, l120, l121, l122, l123, l124, l125, l126, l127, l128, l129, l130, l131, l196, l200, l245, l255, l368, l369, l370, l382, l383, l384, l385, l386, l387, l388, l394, l395, l400, l401, l617, l738, l800, l999, l1000, l1500, l1600, l2400, l3195, l5920, l5995, l11990, l99999, l1000000, l100000000, l1000000000, l2000000000, l2147483647]
        cases al
        · exact ⟨1, 0, if_pos rfl, Or.inl ⟨rfl, rfl, rfl⟩⟩
        · exact ⟨0, 0, if_neg (by decide), Or.inr (Or.inl ⟨rfl, rfl, rfl⟩)⟩
/-! clauses -/
def clX (cl : CL) (e : Env) : Option Int64 := if clT cl e = true then (match cl.2.1 with
  | none => some 0
  | some d => d e) else none
def ClX (x lo hi : Nat) (ord : Bool) (τ : Hp) (a : Nat) (cl : CL) : Prop := (lo ≤ a ∧ a < hi) ∧ htg τ a = 17 ∧ (cl.1 = 1 ∨ cl.1 = 2) ∧ hI τ a 0 = ofN (cl.1 - 1) ∧
  ((hR τ a 1 = none ∧ cl.2.1 = none) ∨ ∃ p d, hR τ a 1 = some p ∧ SmX x lo hi ord τ 60 p d ∧ cl.2.1 = some d) ∧
  ((hR τ a 2 = none ∧ cl.2.2 = none) ∨ ∃ p t, hR τ a 2 = some p ∧ TsX x lo hi ord τ 40 p t ∧ cl.2.2 = some t)
theorem V_c52 (hc : htg σ c = 5) {a : Nat} (ha : htg σ a = 17) (hl : hlo σ ≤ a) {v : Int64} {b : Nat} (hb : b ≤ 1) : X17_holds_c52 (some c) (some a) v (hw σ (stB c I b) L) = some (ofN (1 - b), hw σ (stB c I b) (up1 L a (ups (L a) 3 v))) := by
  have hp : pL (hw σ (stB c I b) L) (some a) [17] 3 v = some (hw σ (stB c I b) (up1 L a (ups (L a) 3 v))) := pL_hw (by rw [ha]; exact List.mem_singleton.mpr rfl) hl
  rcases (show b = 0 ∨ b = 1 by omega) with z | z <;> subst z
  · simp (disch := first | omega | assumption) only [X17_holds_c52, hp, nGI, kgI, stB_1, if_true, Option.bind_some, ofN_add, ofN_mul, ofN_sub, ofN_lt, ofN_le, ofN_inj, ofN_dec, ofN_lt_neg, neg_lt_ofN, ofN_le_neg, neg_le_ofN, ofN_eq_neg, neg_eq_ofN, ofN_irm, ofN_div, l0, l1, l2, l3, l4, l5, l6, l7, l8, l9, l10, l11, l12, l13, l14, l15, l16, l17, l18, l19, l20, l21, l22, l23, l24, l25, l26, l27, l28, l29, l30, l31, l32, l33, l34, l35, l36, l37, l38, l39, l40, l41, l42, l43, l44, l45, l46, l47, l48, l49, l50, l51, l52, l53, l54, l55, l56, l57, l58, l59, l60, l61, l62, l63, l64, l65, l66, l67, l68, l69, l70, l71, l72, l73, l74, l75, l76, l77, l78, l79, l80, l81, l82, l83, l84, l85, l86, l87, l88, l89, l90, l91, l92, l93, l94, l95, l96, l97, l98, l99, l100, l101, l102, l103, l104, l105, l106, l107, l108, l109, l110, l111, l112, l113, l114, l115, l116, l117, l118, l119, l120, l121, l122, l123, l124, l125, l126, l127, l128, l129, l130, l131, l196, l200, l245, l255, l368, l369, l370, l382, l383, l384, l385, l386, l387, l388, l394, l395, l400, l401, l617, l738, l800, l999, l1000, l1500, l1600, l2400, l3195, l5920, l5995, l11990, l99999, l1000000, l100000000, l1000000000, l2000000000, l2147483647]
  · simp (disch := first | omega | assumption) only [X17_holds_c52, hp, nGI, kgI, stB_1, if_neg, Option.bind_some, ofN_add, ofN_mul, ofN_sub, ofN_lt, ofN_le, ofN_inj, ofN_dec, ofN_lt_neg, neg_lt_ofN, ofN_le_neg, neg_le_ofN, ofN_eq_neg, neg_eq_ofN, ofN_irm, ofN_div, l0, l1, l2, l3, l4, l5, l6, l7, l8, l9, l10, l11, l12, l13, l14, l15, l16, l17, l18, l19, l20, l21, l22, l23, l24, l25, l26, l27, l28, l29, l30, l31, l32, l33, l34, l35, l36, l37, l38, l39, l40, l41, l42, l43, l44, l45, l46, l47, l48, l49, l50, l51, l52, l53, l54, l55, l56, l57, l58, l59, l60, l61, l62, l63, l64, l65, l66, l67, l68, l69, l70, l71, l72, l73, l74, l75, l76, l77, l78, l79, l80, l81, l82, l83, l84, l85, l86, l87, l88, l89, l90, l91, l92, l93, l94, l95, l96, l97, l98, l99, l100, l101, l102, l103, l104, l105, l106, l107, l108, l109, l110, l111, l112, l113, l114, l115, l116, l117, l118, l119, l120, l121, l122, l123, l124, l125, l126, l127, l128, l129, l130, l131, l196, l200, l245, l255, l368, l369, l370, l382, l383, l384, l385, l386, l387, l388, l394, l395, l400, l401, l617, l738, l800, l999, l1000, l1500, l1600, l2400, l3195, l5920, l5995, l11990, l99999, l1000000, l100000000, l1000000000, l2000000000, l2147483647]
theorem V_holds (hq : AskX x c ord σ I L e) {a b0 : Nat} {cl : CL} (hx : ClX x lo hi ord (hw σ I L) a cl) (hl : hlo σ ≤ lo) :
    ∃ z b v, X17_holds (some a) (some c) (hw σ (stB c I b0) L) = some (ofN z, hw σ (stB c I b) (up1 L a (ups (L a) 3 v))) ∧ b ≤ 1 ∧ ((z = 1 ∧ clX cl e = some v) ∨ (z = 0 ∧ clX cl e = none)) := by
  obtain ⟨hr, ha, -, -, hS, hT⟩ := hx
  replace ha : htg σ a = 17 := ha
  have hla : hlo σ ≤ a := Nat.le_trans hl hr.1
  have htc : htg σ c = 5 := hq.1.2.1
  have hlc : hlo σ ≤ c := hq.1.1
  have same : up1 L a (ups (L a) 3 (L a 3)) = L := by
    have : ups (L a) 3 (L a 3) = L a := by funext i; unfold ups; split <;> simp_all
    rw [this]; funext i; unfold up1; split <;> simp_all
  have hp0 : pZ (hw σ (stB c I b0) L) (some c) [5] 1 (0 : Int32) = some (hw σ (stB c I 0) L) := kpZ (b' := 0) htc hlc (by omega)
  have hp1 : pZ (hw σ (stB c I b0) L) (some c) [5] 1 (ofN 0) = some (hw σ (stB c I 0) L) := hp0
  have c23 : clT cl e = true → ∃ z b v, X17_holds_c23 (some a) (some c) (hw σ (stB c I 0) L) = some (ofN z, hw σ (stB c I b) (up1 L a (ups (L a) 3 v))) ∧ b ≤ 1 ∧ ((z = 1 ∧ clX cl e = some v) ∨ (z = 0 ∧ clX cl e = none)) := by
    intro hct
    unfold clX
    rw [if_pos hct]
    rcases hS with ⟨s1, s2⟩ | ⟨p, d, s1, s2, s3⟩
    · replace s1 : hR σ a 1 = none := s1
      refine ⟨1, 0, 0, ?_, by omega, Or.inl ⟨rfl, by rw [s2]⟩⟩
      simp (disch := first | omega | assumption) only [X17_holds_c23, nGR, kgI, stB_1, s1, V_c52, if_true, Option.bind_some, ofN_add, ofN_mul, ofN_sub, ofN_lt, ofN_le, ofN_inj, ofN_dec, ofN_lt_neg, neg_lt_ofN, ofN_le_neg, neg_le_ofN, ofN_eq_neg, neg_eq_ofN, ofN_irm, ofN_div, l0, l1, l2, l3, l4, l5, l6, l7, l8, l9, l10, l11, l12, l13, l14, l15, l16, l17, l18, l19, l20, l21, l22, l23, l24, l25, l26, l27, l28, l29, l30, l31, l32, l33, l34, l35, l36, l37, l38, l39, l40, l41, l42, l43, l44, l45, l46, l47, l48, l49, l50, l51, l52, l53, l54, l55, l56, l57, l58, l59, l60, l61, l62, l63, l64, l65, l66, l67, l68, l69, l70, l71, l72, l73, l74, l75, l76, l77, l78, l79, l80, l81, l82, l83, l84, l85, l86, l87, l88, l89, l90, l91, l92, l93, l94, l95, l96, l97, l98, l99, l100, l101, l102, l103, l104, l105, l106, l107, l108, l109, l110, l111, l112, l113, l114, l115, l116, l117, l118, l119, l120, l121, l122, l123, l124, l125, l126, l127, l128, l129, l130, l131, l196, l200, l245, l255, l368, l369, l370, l382, l383, l384, l385, l386, l387, l388, l394, l395, l400, l401, l617, l738, l800, l999, l1000, l1500, l1600, l2400, l3195, l5920, l5995, l11990, l99999, l1000000, l100000000, l1000000000, l2000000000, l2147483647]
    · replace s1 : hR σ a 1 = some p := s1
      obtain ⟨v, b, g1, g2⟩ := V_sum hq 60 p d s2 60 (by omega)
      have hb : b ≤ 1 := by rcases g2 with ⟨-, y⟩ | ⟨-, y⟩ <;> omega
      refine ⟨1 - b, b, v, ?_, hb, ?_⟩
      · simp (disch := first | omega | assumption) only [X17_holds_c23, nGR, kgI, stB_1, s1, g1, V_c52, if_true, if_false, reduceCtorEq, Option.bind_some, ofN_add, ofN_mul, ofN_sub, ofN_lt, ofN_le, ofN_inj, ofN_dec, ofN_lt_neg, neg_lt_ofN, ofN_le_neg, neg_le_ofN, ofN_eq_neg, neg_eq_ofN, ofN_irm, ofN_div, l0, l1, l2, l3, l4, l5, l6, l7, l8, l9, l10, l11, l12, l13, l14, l15, l16, l17, l18, l19, l20, l21, l22, l23, l24, l25, l26, l27, l28, l29, l30, l31, l32, l33, l34, l35, l36, l37, l38, l39, l40, l41, l42, l43, l44, l45, l46, l47, l48, l49, l50, l51, l52, l53, l54, l55, l56, l57, l58, l59, l60, l61, l62, l63, l64, l65, l66, l67, l68, l69, l70, l71, l72, l73, l74, l75, l76, l77, l78, l79, l80, l81, l82, l83, l84, l85, l86, l87, l88, l89, l90, l91, l92, l93, l94, l95, l96, l97, l98, l99, l100, l101, l102, l103, l104, l105, l106, l107, l108, l109, l110, l111, l112, l113, l114, l115, l116, l117, l118, l119, l120, l121, l122, l123, l124, l125, l126, l127, l128, l129, l130, l131, l196, l200, l245, l255, l368, l369, l370, l382, l383, l384, l385, l386, l387, l388, l394, l395, l400, l401, l617, l738, l800, l999, l1000, l1500, l1600, l2400, l3195, l5920, l5995, l11990, l99999, l1000000, l100000000, l1000000000, l2000000000, l2147483647]
      · rw [s3]
        rcases g2 with ⟨y1, y2⟩ | ⟨y1, y2⟩
        · exact Or.inl ⟨by omega, y1⟩
        · exact Or.inr ⟨by omega, y1⟩
  rcases hT with ⟨t1, t2⟩ | ⟨p, t, t1, t2, t3⟩
  · replace t1 : hR σ a 2 = none := t1
    obtain ⟨z, b, v, g1, g2⟩ := c23 (by unfold clT; rw [t2]; rfl)
    refine ⟨z, b, v, ?_, g2⟩
    simp (disch := first | omega | assumption) only [X17_holds, hp0, nGR, t1, if_true, Option.bind_some]
    exact g1
  · replace t1 : hR σ a 2 = some p := t1
    obtain ⟨z, b, f1, f2⟩ := V_test hq 40 p t t2 40 (by omega)
    have ct : clT cl e = (t e == some true) := by unfold clT; rw [t3]; rfl
    rcases f2 with ⟨y1, y2, y3⟩ | ⟨y1, y2, y3⟩ | ⟨y1, y2, y3⟩ <;> subst y1 y2
    · obtain ⟨z, b, v, g1, g2⟩ := c23 (by rw [ct, y3]; rfl)
      refine ⟨z, b, v, ?_, g2⟩
      simp (disch := first | omega | assumption) only [X17_holds, hp0, nGR, t1, f1, reduceCtorEq, if_false, Option.bind_some]
      exact g1
    · refine ⟨0, 0, L a 3, ?_, by omega, Or.inr ⟨rfl, ?_⟩⟩
      · simp (disch := first | omega | assumption) only [X17_holds, hp1, nGR, t1, f1, reduceCtorEq, if_false, if_true, same, Option.bind_some, ofN_add, ofN_mul, ofN_sub, ofN_lt, ofN_le, ofN_inj, ofN_dec, ofN_lt_neg, neg_lt_ofN, ofN_le_neg, neg_le_ofN, ofN_eq_neg, neg_eq_ofN, ofN_irm, ofN_div, l0, l1, l2, l3, l4, l5, l6, l7, l8, l9, l10, l11, l12, l13, l14, l15, l16, l17, l18, l19, l20, l21, l22, l23, l24, l25, l26, l27, l28, l29, l30, l31, l32, l33, l34, l35, l36, l37, l38, l39, l40, l41, l42, l43, l44, l45, l46, l47, l48, l49, l50, l51, l52, l53, l54, l55, l56, l57, l58, l59, l60, l61, l62, l63, l64, l65, l66, l67, l68, l69, l70, l71, l72, l73, l74, l75, l76, l77, l78, l79, l80, l81, l82, l83, l84, l85, l86, l87, l88, l89, l90, l91, l92, l93, l94, l95, l96, l97, l98, l99, l100, l101, l102, l103, l104, l105, l106, l107, l108, l109, l110, l111, l112, l113, l114, l115, l116, l117, l118, l119, l120, l121, l122, l123, l124, l125, l126, l127, l128, l129, l130, l131, l196, l200, l245, l255, l368, l369, l370, l382, l383, l384, l385, l386, l387, l388, l394, l395, l400, l401, l617, l738, l800, l999, l1000, l1500, l1600, l2400, l3195, l5920, l5995, l11990, l99999, l1000000, l100000000, l1000000000, l2000000000, l2147483647]
      · unfold clX
        rw [ct, y3, if_neg (by decide)]
    · refine ⟨0, 1, L a 3, ?_, by omega, Or.inr ⟨rfl, ?_⟩⟩
      · simp (disch := first | omega | assumption) only [X17_holds, hp1, nGR, t1, f1, reduceCtorEq, if_false, if_true, same, Option.bind_some, ofN_add, ofN_mul, ofN_sub, ofN_lt, ofN_le, ofN_inj, ofN_dec, ofN_lt_neg, neg_lt_ofN, ofN_le_neg, neg_le_ofN, ofN_eq_neg, neg_eq_ofN, ofN_irm, ofN_div, l0, l1, l2, l3, l4, l5, l6, l7, l8, l9, l10, l11, l12, l13, l14, l15, l16, l17, l18, l19, l20, l21, l22, l23, l24, l25, l26, l27, l28, l29, l30, l31, l32, l33, l34, l35, l36, l37, l38, l39, l40, l41, l42, l43, l44, l45, l46, l47, l48, l49, l50, l51, l52, l53, l54, l55, l56, l57, l58, l59, l60, l61, l62, l63, l64, l65, l66, l67, l68, l69, l70, l71, l72, l73, l74, l75, l76, l77, l78, l79, l80, l81, l82, l83, l84, l85, l86, l87, l88, l89, l90, l91, l92, l93, l94, l95, l96, l97, l98, l99, l100, l101, l102, l103, l104, l105, l106, l107, l108, l109, l110, l111, l112, l113, l114, l115, l116, l117, l118, l119, l120, l121, l122, l123, l124, l125, l126, l127, l128, l129, l130, l131, l196, l200, l245, l255, l368, l369, l370, l382, l383, l384, l385, l386, l387, l388, l394, l395, l400, l401, l617, l738, l800, l999, l1000, l1500, l1600, l2400, l3195, l5920, l5995, l11990, l99999, l1000000, l100000000, l1000000000, l2000000000, l2147483647]
      · unfold clX
        rw [ct, y3, if_neg (by decide)]
/-! texts -/
theorem sameL (L L' : LM) : SameIn lo hi (hw σ I L) (hw σ I L') := fun _ _ _ => ⟨rfl, rfl, rfl, rfl⟩
theorem ClX.same {τ τ' : Hp} {a : Nat} {cl : CL} (hs : SameIn lo hi τ τ') (h : ClX x lo hi ord τ a cl) : ClX x lo hi ord τ' a cl := by
  obtain ⟨hr, ha, h0, h1, hS, hT⟩ := h
  obtain ⟨e1, -, e2, e3⟩ := hs a hr.1 hr.2
  refine ⟨hr, by rw [e1]; exact ha, h0, by rw [e2]; exact h1, ?_, ?_⟩
  · rcases hS with ⟨s1, s2⟩ | ⟨p, d, s1, s2, s3⟩
    · exact Or.inl ⟨by rw [e3]; exact s1, s2⟩
    · exact Or.inr ⟨p, d, by rw [e3]; exact s1, SmX.same hs 60 p d s2, s3⟩
  · rcases hT with ⟨s1, s2⟩ | ⟨p, d, s1, s2, s3⟩
    · exact Or.inl ⟨by rw [e3]; exact s1, s2⟩
    · exact Or.inr ⟨p, d, by rw [e3]; exact s1, TsX.same hs 40 p d s2, s3⟩
def TxX (x lo hi : Nat) (ord : Bool) (τ : Hp) (a : Nat) (cls : List CL) : Prop := ∃ r, htg τ a = 6 ∧ hR τ a 0 = some r ∧ htg τ r = 110 ∧ hln τ r = cls.length ∧ cls.length < 1000 ∧ ∀ i cl, cls[i]? = some cl → ∃ p, hR τ r i = some p ∧ ClX x lo hi ord τ p cl
/-- rows of longs alike but in clauses -/
def Told (σ : Hp) (L L' : LM) : Prop := ∀ a, htg σ a ≠ 17 → L' a = L a
theorem AskX.told {L' : LM} (hq : AskX x c ord σ I L e) (h : Told σ L L') : AskX x c ord σ I L' e := by
  obtain ⟨h1, h2, h3, h4⟩ := hq
  refine ⟨h1, fun w hw' => ?_, h3, h4⟩
  rw [h (c + 1) (by omega)]
  exact h2 w hw'
theorem lclamp {v : Int64} : lmax 0 (lmin (ofN 99).toInt64 v) = clamp v := by
  have e99 : (ofN 99).toInt64 = 99 := rfl
  rw [e99]
  unfold lmax lmin clamp
  simp only [Int64.lt_iff_toInt_lt]
  have z0 : (0 : Int64).toInt = 0 := rfl
  have z9 : (99 : Int64).toInt = 99 := rfl
  rw [z0, z9]
  by_cases h1 : v.toInt < 99
  · rw [if_pos h1]
    by_cases h2 : v.toInt < 0
    · rw [if_pos h2, if_pos h2]
    · rw [if_neg h2, if_neg h2, if_neg (by omega)]
  · rw [if_neg h1, z9, if_neg (by omega), if_neg (by omega)]
    by_cases h3 : 99 < v.toInt
    · rw [if_pos h3]
    · rw [if_neg h3]
      exact (Int64.toInt_inj.mp (by omega)).symm
theorem V_tellsF (hq : AskX x c ord σ I L e) {a : Nat} {cls : List CL} (hx : TxX x lo hi ord (hw σ I L) a cls) (hl : hlo σ ≤ lo) {hd : Nat} (hh : hd < 1000) (hsum : ∀ cl ∈ cls, cl.1 = hd + 1 → ∃ d, cl.2.1 = some d) {k73 : Int64 → Hp → Option (Int32 × Hp)} : ∀ (r i fuel b0 : Nat) (told : Int64) (L' : LM), i + r = cls.length → r < fuel → b0 ≤ 1 → Told σ L L' →
    ∃ b L'', X6_tells_c7 (some a) (ofN hd) (some c) (ofN 99) k73 fuel told (ofN i) (hw σ (stB c I b0) L') = k73 (tellsT (hd + 1) e (cls.drop i) told) (hw σ (stB c I b) L'') ∧ b ≤ 1 ∧ Told σ L L'' := by
  obtain ⟨ra, t1, t2, t3, t4, t5, t6⟩ := hx
  replace t1 : htg σ a = 6 := t1
  replace t2 : hR σ a 0 = some ra := t2
  replace t3 : htg σ ra = 110 := t3
  replace t4 : hln σ ra = cls.length := t4
  have htc : htg σ c = 5 := hq.1.2.1
  have hN : ∀ I' L', aN (hw σ I' L') (some ra) = some (ofN cls.length) := fun I' L' => by rw [aN_hw (by omega) (by omega), t4]
  intro r
  induction r with
  | zero =>
    intro i fuel b0 told L' hir hf hb hL
    obtain ⟨f, rfl⟩ : ∃ f, fuel = f + 1 := ⟨fuel - 1, by omega⟩
    refine ⟨b0, L', ?_, hb, hL⟩
    rw [X6_tells_c7, List.drop_eq_nil_of_le (by omega)]
    simp (disch := first | omega | assumption) only [nGR, t2, hN, if_pos, tellsT, List.foldl_nil, Option.bind_some, ofN_add, ofN_mul, ofN_sub, ofN_lt, ofN_le, ofN_inj, ofN_dec, ofN_lt_neg, neg_lt_ofN, ofN_le_neg, neg_le_ofN, ofN_eq_neg, neg_eq_ofN, ofN_irm, ofN_div, l0, l1, l2, l3, l4, l5, l6, l7, l8, l9, l10, l11, l12, l13, l14, l15, l16, l17, l18, l19, l20, l21, l22, l23, l24, l25, l26, l27, l28, l29, l30, l31, l32, l33, l34, l35, l36, l37, l38, l39, l40, l41, l42, l43, l44, l45, l46, l47, l48, l49, l50, l51, l52, l53, l54, l55, l56, l57, l58, l59, l60, l61, l62, l63, l64, l65, l66, l67, l68, l69, l70, l71, l72, l73, l74, l75, l76, l77, l78, l79, l80, l81, l82, l83, l84, l85, l86, l87, l88, l89, l90, l91, l92, l93, l94, l95, l96, l97, l98, l99, l100, l101, l102, l103, l104, l105, l106, l107, l108, l109, l110, l111, l112, l113, l114, l115, l116, l117, l118, l119, l120, l121, l122, l123, l124, l125, l126, l127, l128, l129, l130, l131, l196, l200, l245, l255, l368, l369, l370, l382, l383, l384, l385, l386, l387, l388, l394, l395, l400, l401, l617, l738, l800, l999, l1000, l1500, l1600, l2400, l3195, l5920, l5995, l11990, l99999, l1000000, l100000000, l1000000000, l2000000000, l2147483647]
  | succ r ih =>
    intro i fuel b0 told L' hir hf hb hL
    obtain ⟨f, rfl⟩ : ∃ f, fuel = f + 1 := ⟨fuel - 1, by omega⟩
    obtain ⟨cl, hcl⟩ : ∃ cl, cls[i]? = some cl := ⟨cls[i], List.getElem?_eq_getElem (by omega)⟩
    obtain ⟨p, hp, hc⟩ := t6 i cl hcl
    have hdrop : cls.drop i = cl :: cls.drop (i + 1) := by
      obtain ⟨h1, h2⟩ := List.getElem?_eq_some_iff.mp hcl
      rw [← h2]
      exact List.drop_eq_getElem_cons h1
    have hpt : htg σ p = 17 := hc.2.1
    have hpc : p ≠ c := fun z => by rw [z] at hpt; omega
    have hpI : ∀ b, stB c I b p 0 = ofN (cl.1 - 1) := fun b => by rw [stB_ne hpc]; exact hc.2.2.2.1
    have hcl1 := hc.2.2.1
    have haR : ∀ I' L', aR 10 (hw σ I' L') (some ra) (ofN i) = some (some p) := fun I' L' => (aR_hw t3 (by omega) (by omega)).trans (congrArg some hp)
    have hcT : ∀ I' L', cT (hw σ I' L') (some p) 17 = some p := fun I' L' => cT_hw hpt
    have hc' : ClX x lo hi ord (hw σ I L') p cl := ClX.same (τ := hw σ I L) (τ' := hw σ I L') (sameL L L') hc
    obtain ⟨z, b, v, g1, g2, g3⟩ := V_holds (hq.told hL) (b0 := b0) hc' hl
    have hz : z ≤ 1 := by rcases g3 with ⟨y, -⟩ | ⟨y, -⟩ <;> omega
    have hL2 : Told σ L (up1 L' p (ups (L' p) 3 v)) := fun a ha => by
      rw [up1_ne (by intro w; rw [w] at ha; exact ha hpt)]
      exact hL a ha
    have hgL : gL (hw σ (stB c I b) (up1 L' p (ups (L' p) 3 v))) (some p) [17] 3 = some v := by
      rw [gL_hw (by rw [hpt]; exact List.mem_singleton.mpr rfl), up1_eq, ups_eq]
    rw [X6_tells_c7, hdrop]
    have hfold : tellsT (hd + 1) e (cl :: cls.drop (i + 1)) told = tellsT (hd + 1) e (cls.drop (i + 1)) (stepT (hd + 1) e told cl) := rfl
    rw [hfold]
    simp (disch := first | omega | assumption) only [nGR, nGI, t2, hN, haR, hcT, hpI, g1, hgL, lclamp, Option.bind_some, ofN_add, ofN_mul, ofN_sub, ofN_lt, ofN_le, ofN_inj, ofN_dec, ofN_lt_neg, neg_lt_ofN, ofN_le_neg, neg_le_ofN, ofN_eq_neg, neg_eq_ofN, ofN_irm, ofN_div, l0, l1, l2, l3, l4, l5, l6, l7, l8, l9, l10, l11, l12, l13, l14, l15, l16, l17, l18, l19, l20, l21, l22, l23, l24, l25, l26, l27, l28, l29, l30, l31, l32, l33, l34, l35, l36, l37, l38, l39, l40, l41, l42, l43, l44, l45, l46, l47, l48, l49, l50, l51, l52, l53, l54, l55, l56, l57, l58, l59, l60, l61, l62, l63, l64, l65, l66, l67, l68, l69, l70, l71, l72, l73, l74, l75, l76, l77, l78, l79, l80, l81, l82, l83, l84, l85, l86, l87, l88, l89, l90, l91, l92, l93, l94, l95, l96, l97, l98, l99, l100, l101, l102, l103, l104, l105, l106, l107, l108, l109, l110, l111, l112, l113, l114, l115, l116, l117, l118, l119, l120, l121, l122, l123, l124, l125, l126, l127, l128, l129, l130, l131, l196, l200, l245, l255, l368, l369, l370, l382, l383, l384, l385, l386, l387, l388, l394, l395, l400, l401, l617, l738, l800, l999, l1000, l1500, l1600, l2400, l3195, l5920, l5995, l11990, l99999, l1000000, l100000000, l1000000000, l2000000000, l2147483647]
    rw [if_neg (by omega)]
    by_cases hy : cl.1 - 1 = hd
    · rw [if_pos hy]
      obtain ⟨d, hd1⟩ := hsum cl (List.mem_of_getElem? hcl) (by omega)
      have hst : stepT (hd + 1) e told cl = match clX cl e with
          | none => told
          | some v => clamp v := by
        unfold stepT clX clV
        rw [hd1]
        by_cases hw1 : clT cl e = true
        · rw [if_pos ⟨by omega, hw1⟩, if_pos hw1]
          rfl
        · rw [if_neg (fun w => hw1 w.2), if_neg hw1]
      rcases g3 with ⟨y1, y2⟩ | ⟨y1, y2⟩
      · rw [if_neg (by omega), hst, y2]
        exact ih (i + 1) f b _ _ (by omega) (by omega) g2 hL2
      · rw [if_pos y1, hst, y2]
        exact ih (i + 1) f b _ _ (by omega) (by omega) g2 hL2
    · rw [if_neg hy]
      have hst : stepT (hd + 1) e told cl = told := if_neg (by omega)
      rw [hst]
      exact ih (i + 1) f b0 _ _ (by omega) (by omega) hb hL
theorem tells_one {hd : Nat} {e : Env} : ∀ {cls : List CL}, (∀ cl ∈ cls, cl.1 = hd + 1 → cl.2.1 = none) → tellsT (hd + 1) e cls 1 = 1
  | [], _ => rfl
  | cl :: cls, h => by
    have e1 : stepT (hd + 1) e 1 cl = 1 := by
      unfold stepT clV
      split
      · next w =>
        rw [h cl (List.mem_cons_self) w.1]
        rfl
      · rfl
    show tellsT (hd + 1) e cls (stepT (hd + 1) e 1 cl) = 1
    rw [e1]
    exact tells_one fun c hc => h c (List.mem_cons_of_mem _ hc)
theorem V_hasF (hq : AskX x c ord σ I L e) {a : Nat} {cls : List CL} (hx : TxX x lo hi ord (hw σ I L) a cls) (hl : hlo σ ≤ lo) {hd : Nat} (hh : hd < 1000) (hsum : ∀ cl ∈ cls, cl.1 = hd + 1 → cl.2.1 = none) : ∀ (r i fuel b0 : Nat) (L' : LM), i + r = cls.length → r < fuel → b0 ≤ 1 → Told σ L L' →
    ∃ z b L'', X6_has_c2 (some a) (ofN hd) (some c) fuel (ofN i) (hw σ (stB c I b0) L') = some (ofN z, hw σ (stB c I b) L'') ∧ b ≤ 1 ∧ Told σ L L'' ∧ z ≤ 1 ∧ (z = 1 → ∀ w, tellsT (hd + 1) e (cls.drop i) w = 1) ∧ (z = 0 → ∀ w, tellsT (hd + 1) e (cls.drop i) w = w) := by
  obtain ⟨ra, t1, t2, t3, t4, t5, t6⟩ := hx
  replace t1 : htg σ a = 6 := t1
  replace t2 : hR σ a 0 = some ra := t2
  replace t3 : htg σ ra = 110 := t3
  replace t4 : hln σ ra = cls.length := t4
  have htc : htg σ c = 5 := hq.1.2.1
  have hN : ∀ I' L', aN (hw σ I' L') (some ra) = some (ofN cls.length) := fun I' L' => by rw [aN_hw (by omega) (by omega), t4]
  intro r
  induction r with
  | zero =>
    intro i fuel b0 L' hir hf hb hL
    obtain ⟨f, rfl⟩ : ∃ f, fuel = f + 1 := ⟨fuel - 1, by omega⟩
    refine ⟨0, b0, L', ?_, hb, hL, by omega, by omega, fun _ w => ?_⟩
    · rw [X6_has_c2]
      simp (disch := first | omega | assumption) only [nGR, t2, hN, if_pos, Option.bind_some, ofN_add, ofN_mul, ofN_sub, ofN_lt, ofN_le, ofN_inj, ofN_dec, ofN_lt_neg, neg_lt_ofN, ofN_le_neg, neg_le_ofN, ofN_eq_neg, neg_eq_ofN, ofN_irm, ofN_div, l0, l1, l2, l3, l4, l5, l6, l7, l8, l9, l10, l11, l12, l13, l14, l15, l16, l17, l18, l19, l20, l21, l22, l23, l24, l25, l26, l27, l28, l29, l30, l31, l32, l33, l34, l35, l36, l37, l38, l39, l40, l41, l42, l43, l44, l45, l46, l47, l48, l49, l50, l51, l52, l53, l54, l55, l56, l57, l58, l59, l60, l61, l62, l63, l64, l65, l66, l67, l68, l69, l70, l71, l72, l73, l74, l75, l76, l77, l78, l79, l80, l81, l82, l83, l84, l85, l86, l87, l88, l89, l90, l91, l92, l93, l94, l95, l96, l97, l98, l99, l100, l101, l102, l103, l104, l105, l106, l107, l108, l109, l110, l111, l112, l113, l114, l115, l116, l117, l118, l119, l120, l121, l122, l123, l124, l125, l126, l127, l128, l129, l130, l131, l196, l200, l245, l255, l368, l369, l370, l382, l383, l384, l385, l386, l387, l388, l394, l395, l400, l401, l617, l738, l800, l999, l1000, l1500, l1600, l2400, l3195, l5920, l5995, l11990, l99999, l1000000, l100000000, l1000000000, l2000000000, l2147483647]
    · rw [List.drop_eq_nil_of_le (by omega)]
      rfl
  | succ r ih =>
    intro i fuel b0 L' hir hf hb hL
    obtain ⟨f, rfl⟩ : ∃ f, fuel = f + 1 := ⟨fuel - 1, by omega⟩
    obtain ⟨cl, hcl⟩ : ∃ cl, cls[i]? = some cl := ⟨cls[i], List.getElem?_eq_getElem (by omega)⟩
    obtain ⟨p, hp, hc⟩ := t6 i cl hcl
    have hdrop : cls.drop i = cl :: cls.drop (i + 1) := by
      obtain ⟨h1, h2⟩ := List.getElem?_eq_some_iff.mp hcl
      rw [← h2]
      exact List.drop_eq_getElem_cons h1
    have hpt : htg σ p = 17 := hc.2.1
    have hpc : p ≠ c := fun z => by rw [z] at hpt; omega
    have hpI : ∀ b, stB c I b p 0 = ofN (cl.1 - 1) := fun b => by rw [stB_ne hpc]; exact hc.2.2.2.1
    have hcl1 := hc.2.2.1
    have haR : ∀ I' L', aR 10 (hw σ I' L') (some ra) (ofN i) = some (some p) := fun I' L' => (aR_hw t3 (by omega) (by omega)).trans (congrArg some hp)
    have hcT : ∀ I' L', cT (hw σ I' L') (some p) 17 = some p := fun I' L' => cT_hw hpt
    have hc' : ClX x lo hi ord (hw σ I L') p cl := ClX.same (τ := hw σ I L) (τ' := hw σ I L') (sameL L L') hc
    obtain ⟨z, b, v, g1, g2, g3⟩ := V_holds (hq.told hL) (b0 := b0) hc' hl
    have hz : z ≤ 1 := by rcases g3 with ⟨y, -⟩ | ⟨y, -⟩ <;> omega
    have hL2 : Told σ L (up1 L' p (ups (L' p) 3 v)) := fun a ha => by
      rw [up1_ne (by intro w; rw [w] at ha; exact ha hpt)]
      exact hL a ha
    rw [X6_has_c2, hdrop]
    have hfold : ∀ told, tellsT (hd + 1) e (cl :: cls.drop (i + 1)) told = tellsT (hd + 1) e (cls.drop (i + 1)) (stepT (hd + 1) e told cl) := fun told => rfl
    simp (disch := first | omega | assumption) only [nGR, nGI, t2, hN, haR, hcT, hpI, g1, hfold, Option.bind_some, ofN_add, ofN_mul, ofN_sub, ofN_lt, ofN_le, ofN_inj, ofN_dec, ofN_lt_neg, neg_lt_ofN, ofN_le_neg, neg_le_ofN, ofN_eq_neg, neg_eq_ofN, ofN_irm, ofN_div, l0, l1, l2, l3, l4, l5, l6, l7, l8, l9, l10, l11, l12, l13, l14, l15, l16, l17, l18, l19, l20, l21, l22, l23, l24, l25, l26, l27, l28, l29, l30, l31, l32, l33, l34, l35, l36, l37, l38, l39, l40, l41, l42, l43, l44, l45, l46, l47, l48, l49, l50, l51, l52, l53, l54, l55, l56, l57, l58, l59, l60, l61, l62, l63, l64, l65, l66, l67, l68, l69, l70, l71, l72, l73, l74, l75, l76, l77, l78, l79, l80, l81, l82, l83, l84, l85, l86, l87, l88, l89, l90, l91, l92, l93, l94, l95, l96, l97, l98, l99, l100, l101, l102, l103, l104, l105, l106, l107, l108, l109, l110, l111, l112, l113, l114, l115, l116, l117, l118, l119, l120, l121, l122, l123, l124, l125, l126, l127, l128, l129, l130, l131, l196, l200, l245, l255, l368, l369, l370, l382, l383, l384, l385, l386, l387, l388, l394, l395, l400, l401, l617, l738, l800, l999, l1000, l1500, l1600, l2400, l3195, l5920, l5995, l11990, l99999, l1000000, l100000000, l1000000000, l2000000000, l2147483647]
    rw [if_neg (by omega)]
    by_cases hy : cl.1 - 1 = hd
    · rw [if_pos hy]
      have hd1 := hsum cl (List.mem_of_getElem? hcl) (by omega)
      rcases g3 with ⟨y1, y2⟩ | ⟨y1, y2⟩
      · have ht : clT cl e = true := by
          unfold clX at y2
          split at y2
          · next w => exact w
          · cases y2
        have hst : ∀ told, stepT (hd + 1) e told cl = 1 := fun told => by
          unfold stepT clV
          rw [if_pos ⟨by omega, ht⟩, hd1]
          rfl
        rw [if_neg (by omega)]
        refine ⟨1, b, _, rfl, g2, hL2, by omega, fun _ w => ?_, by omega⟩
        rw [hst]
        exact tells_one (fun c hc => hsum c (List.mem_of_mem_drop hc)) 
      · have hst : ∀ told, stepT (hd + 1) e told cl = told := fun told => if_neg fun w => by
          unfold clX at y2
          rw [if_pos w.2, hd1] at y2
          cases y2
        rw [if_pos y1]
        obtain ⟨z', b', L'', r1, r2⟩ := ih (i + 1) f b _ (by omega) (by omega) g2 hL2
        refine ⟨z', b', L'', r1, ?_⟩
        simp only [hst]
        exact r2
    · rw [if_neg hy]
      have hst : ∀ told, stepT (hd + 1) e told cl = told := fun told => if_neg (by omega)
      obtain ⟨z', b', L'', r1, r2⟩ := ih (i + 1) f b0 _ (by omega) (by omega) hb hL
      refine ⟨z', b', L'', r1, ?_⟩
      simp only [hst]
      exact r2
end XTEST
