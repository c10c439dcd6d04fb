set_option maxRecDepth 100000
/-! THE MODEL's TESTS -/
def RdT (T : Nat) (f : Nat → Nat → PR DT) : Prop := ∀ i lv q, f i lv = .inr q → i ≤ T → i < q.1 ∧ q.1 ≤ T ∧ lv < q.2.1 ∧ q.2.1 ≤ 50
def ST (live b0 : Nat) (o : Option Bool) (x b : Nat) : Prop := x ≤ 1 ∧ b ≤ 1 ∧ if live = 1 ∧ b0 = 0 then (o = some (decide (x = 1)) ∧ b = 0) ∨ (o = none ∧ b = 1) else b = b0
def SpT (m : Nat) (σ : Hp) (I : IM) (L : LM) (ord : Bool) (G : Nat) (f : Option Nat → Int32 → Hp → Option (Int32 × Hp)) (i i' : Nat) (d : DT) : Prop :=
  ∀ live b, live ≤ 1 → b ≤ 1 → ∃ x b', f (some m) (ofN live) (hw σ (stE m I (G + i) b) L) = some (ofN x, hw σ (stE m I (G + i') b') L) ∧ ST live b (d (envI m I ord)) x b'
section PT
variable {ord : Bool} {cd vl : Nat → Nat} {T : Nat}
theorem pNots_le (h : Tk cd vl T) : ∀ (r i : Nat) (b : Bool), i ≤ T → i ≤ (pNots cd r i b).1 ∧ (pNots cd r i b).1 ≤ T
  | 0, i, b, hi => ⟨Nat.le_refl _, hi⟩
  | r + 1, i, b, hi => by
    unfold pNots
    split
    · next hc =>
      have := pNots_le h r (i + 1) (!b) (by have := h.pos (i := i) (by omega); omega)
      omega
    · exact ⟨Nat.le_refl _, hi⟩
theorem pPos_rd (h : Tk cd vl T) {e : Nat} {rec : Option (Nat → Nat → PR DT)} (hr : ∀ r, rec = some r → RdT T r) : RdT T (pPos ord cd vl e rec) := by
  intro i lv q hq hi
  unfold pPos at hq
  split at hq
  · next hc =>
    have hi2 : i < T := h.pos (by omega)
    cases rec with
    | none => cases hq
    | some r =>
      obtain ⟨i', lv', d, e1, e2⟩ := pBd_inr hq
      obtain ⟨a1, a2, a3, a4⟩ := hr r rfl (i + 1) lv _ e1 (by omega)
      dsimp only at a1 a2 a3 a4
      split at e2
      · next h9 =>
        have := h.pos (i := i') (by omega)
        cases e2
        exact ⟨by omega, by omega, a3, a4⟩
      · cases e2
  · obtain ⟨i1, lv1, d1, e1, e2⟩ := pBd_inr hq
    obtain ⟨a1, a2, a3, a4, -⟩ := pSum_rd h e i lv _ e1 hi
    dsimp only at a1 a2 a3 a4
    split at e2
    · next hc =>
      have hi2 : i1 < T := h.pos (by omega)
      obtain ⟨i2, lv2, d2, e3, e4⟩ := pBd_inr e2
      obtain ⟨b1, b2, b3, b4, -⟩ := pSum_rd h e (i1 + 1) lv1 _ e3 (by omega)
      dsimp only at b1 b2 b3 b4
      cases e4
      dsimp only
      exact ⟨by omega, by omega, by omega, by omega⟩
    · cases e2
theorem pPlain_rd (h : Tk cd vl T) {e : Nat} {rec : Option (Nat → Nat → PR DT)} (hr : ∀ r, rec = some r → RdT T r) : RdT T (pPlain ord cd vl e rec) := by
  intro i lv q hq hi
  unfold pPlain at hq
  obtain ⟨i', lv', d, e1, e2⟩ := pBd_inr hq
  have hn := pNots_le h 500 i false hi
  obtain ⟨a1, a2, a3, a4⟩ := pPos_rd h hr _ lv _ e1 hn.2
  cases e2
  dsimp only at a1 a2 a3 a4 ⊢
  exact ⟨by omega, by omega, by omega, by omega⟩
theorem pTRow_rd (h : Tk cd vl T) {c : Nat} (hc0 : c ≠ 0) {f : DT → DT → DT} {part : Nat → Nat → PR DT} (hp : RdT T part) : ∀ (r i lv : Nat) (d : DT) (q : Nat × Nat × DT), pTRow cd c f part r i lv d = .inr q → i ≤ T → lv ≤ 50 → i ≤ q.1 ∧ q.1 ≤ T ∧ lv ≤ q.2.1 ∧ q.2.1 ≤ 50
  | 0, i, lv, d, q, hq, hi, hl => by
    cases hq
    exact ⟨Nat.le_refl _, hi, Nat.le_refl _, hl⟩
  | r + 1, i, lv, d, q, hq, hi, hl => by
    unfold pTRow at hq
    split at hq
    · next hc =>
      have hi2 : i < T := h.pos (by omega)
      obtain ⟨i', lv', d', e1, e2⟩ := pBd_inr hq
      obtain ⟨a1, a2, a3, a4⟩ := hp (i + 1) lv _ e1 (by omega)
      dsimp only at a1 a2 a3 a4
      obtain ⟨b1, b2, b3, b4⟩ := pTRow_rd h hc0 hp r i' lv' _ q e2 a2 a4
      exact ⟨by omega, b2, by omega, b4⟩
    · cases hq
      exact ⟨Nat.le_refl _, hi, Nat.le_refl _, hl⟩
theorem pBoth_rd (h : Tk cd vl T) {e : Nat} {rec : Option (Nat → Nat → PR DT)} (hr : ∀ r, rec = some r → RdT T r) : RdT T (pBoth ord cd vl e rec) := by
  intro i lv q hq hi
  unfold pBoth at hq
  obtain ⟨i', lv', d', e1, e2⟩ := pBd_inr hq
  obtain ⟨a1, a2, a3, a4⟩ := pPlain_rd h hr i lv _ e1 hi
  obtain ⟨b1, b2, b3, b4⟩ := pTRow_rd h (by omega) (pPlain_rd h hr) 500 i' lv' d' q e2 a2 a4
  dsimp only at a1 a3
  exact ⟨by omega, b2, by omega, b4⟩
theorem pTest1_rd (h : Tk cd vl T) {e : Nat} {rec : Option (Nat → Nat → PR DT)} (hr : ∀ r, rec = some r → RdT T r) : RdT T (pTest1 ord cd vl e rec) := by
  intro i lv q hq hi
  unfold pTest1 at hq
  obtain ⟨i', lv', d', e1, e2⟩ := pBd_inr hq
  obtain ⟨a1, a2, a3, a4⟩ := pBoth_rd h hr i lv _ e1 hi
  obtain ⟨b1, b2, b3, b4⟩ := pTRow_rd h (by omega) (pBoth_rd h hr) 500 i' lv' d' q e2 a2 a4
  dsimp only at a1 a3
  exact ⟨by omega, b2, by omega, b4⟩
theorem pTest_rd (h : Tk cd vl T) : ∀ e, RdT T (pTest ord cd vl e)
  | 0 => pTest1_rd h (fun r hr => by cases hr)
  | e + 1 => pTest1_rd h (fun r hr => by cases hr; exact pTest_rd h e)
end PT
section MTESTS
variable {m : Nat} {σ : Hp} {I : IM} {L : LM} {ord : Bool} {cd vl : Nat → Nat} {G T : Nat}
theorem E_pos (h : MSh m σ) (hE : EvC m I ord cd vl G T) (hT : Tk cd vl T) (he : EOK (envI m I ord)) {e : Nat} (he8 : e < 12) {rec : Option Nat → Int32 → Hp → Option (Int32 × Hp)} {rc : Option (Nat → Nat → PR DT)} (hrd : ∀ r, rc = some r → RdT T r)
    (hrec : ∀ r, rc = some r → ∀ i lv q, r i lv = .inr q → i ≤ T → SpT m σ I L ord G rec i q.1 q.2.2) {i lv : Nat} {q : Nat × Nat × DT} (hq : pPos ord cd vl e rc i lv = .inr q) (hi : i ≤ T) : SpT m σ I L ord G (X7_positiveOf rec) i q.1 q.2.2 := by
  intro live b hl hb
  have hT1 := hT.1
  have hG := hE.2.2.2
  have ps := E_passes (L := L) h hT hE (i := i) (b := b) (c := 100 + 40) hi (by omega)
  simp (disch := first | omega | assumption) only [X7_positiveOf, X7_signOf, ps, mgI, mgL, mpI, mpZ0, mpZ1, mpL, mcT, rZ0, rZ1, mR1, mA1, mS1, mR2, mA2, mS2, mR3, mA3, mS3, mR4, mA4, mS4, mR5, mA5, mS5, mR6, mA6, mS6, mR7, mA7, mS7, mR8, mA8, mS8, mR10, mA10, mS10, mR14, mA14, mS14, mR15, mA15, mS15, mR18, mA18, mS18, mR19, mA19, mS19, mR20, mA20, mS20, mR29, mA29, mS29, mR32, mA32, mS32, mR33, mA33, mS33, mR34, mA34, mS34, mR35, mA35, mS35, mR37, mA37, mS37, mR38, mA38, mS38, mR39, mA39, mS39, mR40, mA40, mS40, mR41, mA41, mS41, mR43, mA43, mS43, mR46, mA46, mS46, mR47, mA47, mS47, mR48, mA48, mS48, mR49, mA49, mS49, mR50, mA50, mS50, mR51, mA51, mS51, mR52, mA52, mS52, mR53, mA53, mS53, mR60, mA60, mS60, mR61, mA61, mS61, Option.bind_some, ofN_add, ofN_mul, ofN_sub, ofN_lt, ofN_le, ofN_inj, ofN_dec, ofN_lt_neg, neg_lt_ofN, ofN_le_neg, neg_le_ofN, ofN_eq_neg, neg_eq_ofN, ofN_irm, ofN_div, l0, l1, l2, l3, l4, l5, l6, l7, l8, l9, l10, l11, l12, l13, l14, l15, l16, l17, l18, l19, l20, l21, l22, l23, l24, l25, l26, l27, l28, l29, l30, l31, l32, l33, l34, l35, l36, l37, l38, l39, l40, l41, l42, l43, l44, l45, l46, l47, l48, l49, l50, l51, l52, l53, l54, l55, l56, l57, l58, l59, l60, l61, l62, l63, l64, l65, l66, l67, l68, l69, l70, l71, l72, l73, l74, l75, l76, l77, l78, l79, l80, l81, l82, l83, l84, l85, l86, l87, l88, l89, l90, l91, l92, l93, l94, l95, l96, l97, l98, l99, l100, l101, l102, l103, l104, l105, l106, l107, l108, l109, l110, l111, l112, l113, l114, l115, l116, l117, l118, l119, l120, l121, l122, l123, l124, l125, l126, l127, l128, l129, l130, l131, l196, l200, l245, l255, l368, l369, l370, l382, l383, l384, l385, l386, l387, l388, l394, l395, l400, l401, l617, l738, l800, l999, l1000, l1500, l1600, l2400, l3195, l5920, l5995, l11990, l99999, l1000000, l100000000, l1000000000, l2000000000, l2147483647]
  unfold pPos at hq
  by_cases hc : cd i = 140
  · rw [if_pos hc] at hq
    cases rc with
    | none => cases hq
    | some r =>
      obtain ⟨i', lv', d, e1, e2⟩ := pBd_inr hq
      have hi2 : i < T := hT.pos (by omega)
      obtain ⟨x, b', e3, s3⟩ := hrec r rfl (i + 1) lv _ e1 (by omega) live b hl hb
      split at e2
      · cases e2
        refine ⟨x, b', ?_, s3⟩
        have hx := s3.1
        rw [if_pos hc]
        simp (disch := first | omega | assumption) only [e3, stE_25, stE_set25, mgI, mgL, mpI, mpZ0, mpZ1, mpL, mcT, rZ0, rZ1, mR1, mA1, mS1, mR2, mA2, mS2, mR3, mA3, mS3, mR4, mA4, mS4, mR5, mA5, mS5, mR6, mA6, mS6, mR7, mA7, mS7, mR8, mA8, mS8, mR10, mA10, mS10, mR14, mA14, mS14, mR15, mA15, mS15, mR18, mA18, mS18, mR19, mA19, mS19, mR20, mA20, mS20, mR29, mA29, mS29, mR32, mA32, mS32, mR33, mA33, mS33, mR34, mA34, mS34, mR35, mA35, mS35, mR37, mA37, mS37, mR38, mA38, mS38, mR39, mA39, mS39, mR40, mA40, mS40, mR41, mA41, mS41, mR43, mA43, mS43, mR46, mA46, mS46, mR47, mA47, mS47, mR48, mA48, mS48, mR49, mA49, mS49, mR50, mA50, mS50, mR51, mA51, mS51, mR52, mA52, mS52, mR53, mA53, mS53, mR60, mA60, mS60, mR61, mA61, mS61, Option.bind_some, ofN_add, ofN_mul, ofN_sub, ofN_lt, ofN_le, ofN_inj, ofN_dec, ofN_lt_neg, neg_lt_ofN, ofN_le_neg, neg_le_ofN, ofN_eq_neg, neg_eq_ofN, ofN_irm, ofN_div, l0, l1, l2, l3, l4, l5, l6, l7, l8, l9, l10, l11, l12, l13, l14, l15, l16, l17, l18, l19, l20, l21, l22, l23, l24, l25, l26, l27, l28, l29, l30, l31, l32, l33, l34, l35, l36, l37, l38, l39, l40, l41, l42, l43, l44, l45, l46, l47, l48, l49, l50, l51, l52, l53, l54, l55, l56, l57, l58, l59, l60, l61, l62, l63, l64, l65, l66, l67, l68, l69, l70, l71, l72, l73, l74, l75, l76, l77, l78, l79, l80, l81, l82, l83, l84, l85, l86, l87, l88, l89, l90, l91, l92, l93, l94, l95, l96, l97, l98, l99, l100, l101, l102, l103, l104, l105, l106, l107, l108, l109, l110, l111, l112, l113, l114, l115, l116, l117, l118, l119, l120, l121, l122, l123, l124, l125, l126, l127, l128, l129, l130, l131, l196, l200, l245, l255, l368, l369, l370, l382, l383, l384, l385, l386, l387, l388, l394, l395, l400, l401, l617, l738, l800, l999, l1000, l1500, l1600, l2400, l3195, l5920, l5995, l11990, l99999, l1000000, l100000000, l1000000000, l2000000000, l2147483647]
        rw [if_neg (by omega)]
        have hz : x = 0 ∨ x = 1 := by omega
        have rz : ∀ τ, rZ (ofN x) τ = some (ofN x, τ) := fun τ => rZ_ok (hz.elim (fun z => Or.inl (by rw [z])) (fun z => Or.inr (by rw [z])))
        rw [rz]
        simp only [Nat.add_assoc]
      · cases e2
  · rw [if_neg hc] at hq
    rw [if_neg hc]
    obtain ⟨i1, lv1, d1, e1, e2⟩ := pBd_inr hq
    split at e2
    case isFalse => cases e2
    next hcc =>
    obtain ⟨i2, lv2, d2, e3, e4⟩ := pBd_inr e2
    cases e4
    obtain ⟨a1, a2, -⟩ := pSum_rd hT e i lv _ e1 hi
    dsimp only at a1 a2
    have hi1 : i1 < T := hT.pos (by omega)
    obtain ⟨p, b1, f1, s1⟩ := E_sum (L := L) h hE hT he e 12 i lv _ he8 e1 hi live b hl hb
    obtain ⟨w, b2, f2, s2⟩ := E_sum (L := L) h hE hT he e 12 (i1 + 1) lv1 _ he8 e3 (by omega) live b1 hl s1.1
    have hc1 := hT.2.2.1 i1
    have e0 : G + i1 + 1 = G + (i1 + 1) := by omega
    have cA : X7_codeAt (some m) (ofN (G + i1)) (hw σ (stE m I (G + i1) b1) L) = some (ofN (cd i1), hw σ (stE m I (G + i1) b1) L) := E_codeAt h hT hE a2
    dsimp only at f1 f2 s1 s2
    have hb2 := s2.1
    simp (disch := first | omega | assumption) only [f1, cA, stE_25, stE_set25, e0, f2, stE_27, if_true, mgI, mgL, mpI, mpZ0, mpZ1, mpL, mcT, rZ0, rZ1, mR1, mA1, mS1, mR2, mA2, mS2, mR3, mA3, mS3, mR4, mA4, mS4, mR5, mA5, mS5, mR6, mA6, mS6, mR7, mA7, mS7, mR8, mA8, mS8, mR10, mA10, mS10, mR14, mA14, mS14, mR15, mA15, mS15, mR18, mA18, mS18, mR19, mA19, mS19, mR20, mA20, mS20, mR29, mA29, mS29, mR32, mA32, mS32, mR33, mA33, mS33, mR34, mA34, mS34, mR35, mA35, mS35, mR37, mA37, mS37, mR38, mA38, mS38, mR39, mA39, mS39, mR40, mA40, mS40, mR41, mA41, mS41, mR43, mA43, mS43, mR46, mA46, mS46, mR47, mA47, mS47, mR48, mA48, mS48, mR49, mA49, mS49, mR50, mA50, mS50, mR51, mA51, mS51, mR52, mA52, mS52, mR53, mA53, mS53, mR60, mA60, mS60, mR61, mA61, mS61, Option.bind_some, ofN_add, ofN_mul, ofN_sub, ofN_lt, ofN_le, ofN_inj, ofN_dec, ofN_lt_neg, neg_lt_ofN, ofN_le_neg, neg_le_ofN, ofN_eq_neg, neg_eq_ofN, ofN_irm, ofN_div, l0, l1, l2, l3, l4, l5, l6, l7, l8, l9, l10, l11, l12, l13, l14, l15, l16, l17, l18, l19, l20, l21, l22, l23, l24, l25, l26, l27, l28, l29, l30, l31, l32, l33, l34, l35, l36, l37, l38, l39, l40, l41, l42, l43, l44, l45, l46, l47, l48, l49, l50, l51, l52, l53, l54, l55, l56, l57, l58, l59, l60, l61, l62, l63, l64, l65, l66, l67, l68, l69, l70, l71, l72, l73, l74, l75, l76, l77, l78, l79, l80, l81, l82, l83, l84, l85, l86, l87, l88, l89, l90, l91, l92, l93, l94, l95, l96, l97, l98, l99, l100, l101, l102, l103, l104, l105, l106, l107, l108, l109, l110, l111, l112, l113, l114, l115, l116, l117, l118, l119, l120, l121, l122, l123, l124, l125, l126, l127, l128, l129, l130, l131, l196, l200, l245, l255, l368, l369, l370, l382, l383, l384, l385, l386, l387, l388, l394, l395, l400, l401, l617, l738, l800, l999, l1000, l1500, l1600, l2400, l3195, l5920, l5995, l11990, l99999, l1000000, l100000000, l1000000000, l2000000000, l2147483647]
    by_cases h0 : live = 0
    · rw [if_pos h0]
      refine ⟨0, b2, rfl, by omega, hb2, ?_⟩
      rw [if_neg (by omega)]
      have := s1.2
      have := s2.2
      rw [if_neg (by omega)] at *
      omega
    · rw [if_neg h0]
      have h1 : live = 1 := by omega
      subst h1
      by_cases hb20 : b2 = 0
      · rw [if_pos hb20]
        have key : ∀ x, x ≤ 1 → (b = 0 → cmpD (cd i1) d1 d2 (envI m I ord) = some (decide (x = 1))) → ST 1 b (cmpD (cd i1) d1 d2 (envI m I ord)) x b2 := by
          intro x hx hk
          refine ⟨hx, hb2, ?_⟩
          by_cases hb0 : b = 0
          · rw [if_pos ⟨rfl, hb0⟩]
            exact Or.inl ⟨hk hb0, hb20⟩
          · have z1 := s1.2
            rw [if_neg (by omega)] at z1
            have z2 := s2.2
            rw [if_neg (by omega)] at z2
            omega
        have vals : b = 0 → d1 (envI m I ord) = some p ∧ d2 (envI m I ord) = some w := by
          intro hb0
          have z1 := s1.2
          rw [if_pos ⟨rfl, hb0⟩] at z1
          rcases z1 with ⟨y1, y2⟩ | ⟨y1, y2⟩
          · have z2 := s2.2
            rw [if_pos ⟨rfl, y2⟩] at z2
            rcases z2 with ⟨y3, y4⟩ | ⟨y3, y4⟩
            · exact ⟨y1, y3⟩
            · omega
          · have z2 := s2.2
            rw [if_neg (by omega)] at z2
            omega
        have cm : b = 0 → cmpD (cd i1) d1 d2 (envI m I ord) = some (if cd i1 = 160 then decide (p < w) else if cd i1 = 162 then decide (w < p) else decide (p = w)) := by
          intro hb0
          obtain ⟨y1, y2⟩ := vals hb0
          unfold cmpD
          rw [y1, y2]
          rfl
        by_cases c6 : cd i1 = 160
        · rw [if_pos c6]
          by_cases hy : w ≤ p
          · refine ⟨0, b2, if_pos (show ofN 0 ≤ lg_cmp p w from (lg_cmp_ge p w).mpr hy), key 0 (by omega) (fun z => ?_)⟩
            rw [cm z, if_pos c6, decide_eq_false (Int64.not_lt.mpr hy)]
            rfl
          · refine ⟨1, b2, if_neg (show ¬ ofN 0 ≤ lg_cmp p w from fun z => hy ((lg_cmp_ge p w).mp z)), key 1 (by omega) (fun z => ?_)⟩
            rw [cm z, if_pos c6, decide_eq_true (Int64.not_le.mp hy)]
            rfl
        · rw [if_neg c6]
          by_cases c7 : cd i1 = 162
          · rw [if_pos c7]
            by_cases hy : p ≤ w
            · refine ⟨0, b2, if_pos (show lg_cmp p w ≤ ofN 0 from (lg_cmp_le p w).mpr hy), key 0 (by omega) (fun z => ?_)⟩
              rw [cm z, if_neg c6, if_pos c7, decide_eq_false (Int64.not_lt.mpr hy)]
              rfl
            · refine ⟨1, b2, if_neg (show ¬ lg_cmp p w ≤ ofN 0 from fun z => hy ((lg_cmp_le p w).mp z)), key 1 (by omega) (fun z => ?_)⟩
              rw [cm z, if_neg c6, if_pos c7, decide_eq_true (Int64.not_le.mp hy)]
              rfl
          · rw [if_neg c7]
            by_cases hy : p = w
            · refine ⟨1, b2, if_pos (show lg_cmp p w = ofN 0 from (lg_cmp_eq p w).mpr hy), key 1 (by omega) (fun z => ?_)⟩
              rw [cm z, if_neg c6, if_neg c7, decide_eq_true hy]
              rfl
            · refine ⟨0, b2, if_neg (show ¬ lg_cmp p w = ofN 0 from fun z => hy ((lg_cmp_eq p w).mp z)), key 0 (by omega) (fun z => ?_)⟩
              rw [cm z, if_neg c6, if_neg c7, decide_eq_false hy]
              rfl
      · rw [if_neg hb20]
        refine ⟨0, b2, rfl, by omega, hb2, ?_⟩
        by_cases hb0 : b = 0
        · rw [if_pos ⟨rfl, hb0⟩]
          refine Or.inr ⟨?_, by omega⟩
          have z1 := s1.2
          rw [if_pos ⟨rfl, hb0⟩] at z1
          unfold cmpD
          rcases z1 with ⟨y1, y2⟩ | ⟨y1, y2⟩
          · have z2 := s2.2
            rw [if_pos ⟨rfl, y2⟩] at z2
            rcases z2 with ⟨y3, y4⟩ | ⟨y3, y4⟩
            · exact absurd y4 hb20
            · rw [y1, y3]; rfl
          · rw [y1]; rfl
        · rw [if_neg (by omega)]
          have z1 := s1.2
          rw [if_neg (by omega)] at z1
          have z2 := s2.2
          rw [if_neg (by omega)] at z2
          omega
theorem E_nots (h : MSh m σ) (hE : EvC m I ord cd vl G T) (hT : Tk cd vl T) {rec : Option Nat → Int32 → Hp → Option (Int32 × Hp)} {k24 : Int32 → Hp → Option (Int32 × Hp)} {z : Int32} {b : Nat} : ∀ (r fuel i : Nat) (nb : Bool), i ≤ T → 500 ≤ r + i → r < fuel →
    X7_plainOf_c2 rec (some m) z k24 fuel (if nb = true then ofN 1 else ofN 0) (hw σ (stE m I (G + i) b) L) = k24 (if (pNots cd r i nb).2 = true then ofN 1 else ofN 0) (hw σ (stE m I (G + (pNots cd r i nb).1) b) L) := by
  intro r
  have hT1 := hT.1
  induction r with
  | zero => intro fuel i nb hi h5; omega
  | succ r ih =>
    intro fuel i nb hi h5 hf
    obtain ⟨f, rfl⟩ : ∃ f, fuel = f + 1 := ⟨fuel - 1, by omega⟩
    have ps := E_passes (L := L) h hT hE (i := i) (b := b) (c := 6) hi (by omega)
    unfold pNots
    simp (disch := first | omega | assumption) only [X7_plainOf_c2, ps, mgI, mgL, mpI, mpZ0, mpZ1, mpL, mcT, rZ0, rZ1, mR1, mA1, mS1, mR2, mA2, mS2, mR3, mA3, mS3, mR4, mA4, mS4, mR5, mA5, mS5, mR6, mA6, mS6, mR7, mA7, mS7, mR8, mA8, mS8, mR10, mA10, mS10, mR14, mA14, mS14, mR15, mA15, mS15, mR18, mA18, mS18, mR19, mA19, mS19, mR20, mA20, mS20, mR29, mA29, mS29, mR32, mA32, mS32, mR33, mA33, mS33, mR34, mA34, mS34, mR35, mA35, mS35, mR37, mA37, mS37, mR38, mA38, mS38, mR39, mA39, mS39, mR40, mA40, mS40, mR41, mA41, mS41, mR43, mA43, mS43, mR46, mA46, mS46, mR47, mA47, mS47, mR48, mA48, mS48, mR49, mA49, mS49, mR50, mA50, mS50, mR51, mA51, mS51, mR52, mA52, mS52, mR53, mA53, mS53, mR60, mA60, mS60, mR61, mA61, mS61, Option.bind_some, ofN_add, ofN_mul, ofN_sub, ofN_lt, ofN_le, ofN_inj, ofN_dec, ofN_lt_neg, neg_lt_ofN, ofN_le_neg, neg_le_ofN, ofN_eq_neg, neg_eq_ofN, ofN_irm, ofN_div, l0, l1, l2, l3, l4, l5, l6, l7, l8, l9, l10, l11, l12, l13, l14, l15, l16, l17, l18, l19, l20, l21, l22, l23, l24, l25, l26, l27, l28, l29, l30, l31, l32, l33, l34, l35, l36, l37, l38, l39, l40, l41, l42, l43, l44, l45, l46, l47, l48, l49, l50, l51, l52, l53, l54, l55, l56, l57, l58, l59, l60, l61, l62, l63, l64, l65, l66, l67, l68, l69, l70, l71, l72, l73, l74, l75, l76, l77, l78, l79, l80, l81, l82, l83, l84, l85, l86, l87, l88, l89, l90, l91, l92, l93, l94, l95, l96, l97, l98, l99, l100, l101, l102, l103, l104, l105, l106, l107, l108, l109, l110, l111, l112, l113, l114, l115, l116, l117, l118, l119, l120, l121, l122, l123, l124, l125, l126, l127, l128, l129, l130, l131, l196, l200, l245, l255, l368, l369, l370, l382, l383, l384, l385, l386, l387, l388, l394, l395, l400, l401, l617, l738, l800, l999, l1000, l1500, l1600, l2400, l3195, l5920, l5995, l11990, l99999, l1000000, l100000000, l1000000000, l2000000000, l2147483647]
    by_cases hc : cd i = 6
    · have hi2 : i < T := hT.pos (by omega)
      rw [if_pos hc, if_pos hc]
      simp (disch := first | omega | assumption) only [Option.bind_some, ofN_add, ofN_mul, ofN_sub, ofN_lt, ofN_le, ofN_inj, ofN_dec, ofN_lt_neg, neg_lt_ofN, ofN_le_neg, neg_le_ofN, ofN_eq_neg, neg_eq_ofN, ofN_irm, ofN_div, l0, l1, l2, l3, l4, l5, l6, l7, l8, l9, l10, l11, l12, l13, l14, l15, l16, l17, l18, l19, l20, l21, l22, l23, l24, l25, l26, l27, l28, l29, l30, l31, l32, l33, l34, l35, l36, l37, l38, l39, l40, l41, l42, l43, l44, l45, l46, l47, l48, l49, l50, l51, l52, l53, l54, l55, l56, l57, l58, l59, l60, l61, l62, l63, l64, l65, l66, l67, l68, l69, l70, l71, l72, l73, l74, l75, l76, l77, l78, l79, l80, l81, l82, l83, l84, l85, l86, l87, l88, l89, l90, l91, l92, l93, l94, l95, l96, l97, l98, l99, l100, l101, l102, l103, l104, l105, l106, l107, l108, l109, l110, l111, l112, l113, l114, l115, l116, l117, l118, l119, l120, l121, l122, l123, l124, l125, l126, l127, l128, l129, l130, l131, l196, l200, l245, l255, l368, l369, l370, l382, l383, l384, l385, l386, l387, l388, l394, l395, l400, l401, l617, l738, l800, l999, l1000, l1500, l1600, l2400, l3195, l5920, l5995, l11990, l99999, l1000000, l100000000, l1000000000, l2000000000, l2147483647]
      rw [if_neg (by omega)]
      cases nb with
      | false => exact ih f (i + 1) true (by omega) (by omega) (by omega)
      | true => exact ih f (i + 1) false (by omega) (by omega) (by omega)
    · rw [if_neg hc, if_neg hc]
      simp (disch := first | omega | assumption) only [if_true, Option.bind_some, ofN_add, ofN_mul, ofN_sub, ofN_lt, ofN_le, ofN_inj, ofN_dec, ofN_lt_neg, neg_lt_ofN, ofN_le_neg, neg_le_ofN, ofN_eq_neg, neg_eq_ofN, ofN_irm, ofN_div, l0, l1, l2, l3, l4, l5, l6, l7, l8, l9, l10, l11, l12, l13, l14, l15, l16, l17, l18, l19, l20, l21, l22, l23, l24, l25, l26, l27, l28, l29, l30, l31, l32, l33, l34, l35, l36, l37, l38, l39, l40, l41, l42, l43, l44, l45, l46, l47, l48, l49, l50, l51, l52, l53, l54, l55, l56, l57, l58, l59, l60, l61, l62, l63, l64, l65, l66, l67, l68, l69, l70, l71, l72, l73, l74, l75, l76, l77, l78, l79, l80, l81, l82, l83, l84, l85, l86, l87, l88, l89, l90, l91, l92, l93, l94, l95, l96, l97, l98, l99, l100, l101, l102, l103, l104, l105, l106, l107, l108, l109, l110, l111, l112, l113, l114, l115, l116, l117, l118, l119, l120, l121, l122, l123, l124, l125, l126, l127, l128, l129, l130, l131, l196, l200, l245, l255, l368, l369, l370, l382, l383, l384, l385, l386, l387, l388, l394, l395, l400, l401, l617, l738, l800, l999, l1000, l1500, l1600, l2400, l3195, l5920, l5995, l11990, l99999, l1000000, l100000000, l1000000000, l2000000000, l2147483647]
theorem E_plain (h : MSh m σ) (hE : EvC m I ord cd vl G T) (hT : Tk cd vl T) (he : EOK (envI m I ord)) {e : Nat} (he8 : e < 12) {rec : Option Nat → Int32 → Hp → Option (Int32 × Hp)} {rc : Option (Nat → Nat → PR DT)} (hrd : ∀ r, rc = some r → RdT T r)
    (hrec : ∀ r, rc = some r → ∀ i lv q, r i lv = .inr q → i ≤ T → SpT m σ I L ord G rec i q.1 q.2.2) {i lv : Nat} {q : Nat × Nat × DT} (hq : pPlain ord cd vl e rc i lv = .inr q) (hi : i ≤ T) : SpT m σ I L ord G (X7_plainOf rec) i q.1 q.2.2 := by
  intro live b hl hb
  unfold pPlain at hq
  obtain ⟨i', lv', d, e1, e2⟩ := pBd_inr hq
  have hn := pNots_le hT 500 i false hi
  obtain ⟨x, b', e3, hx, hb', s3⟩ := E_pos h hE hT he he8 hrd hrec e1 hn.2 live b hl hb
  cases e2
  have ns := E_nots (L := L) h hE hT (rec := rec) (k24 := fun x1 τ2 => (cT τ2 (some m) 7).bind fun b4 => (X7_positiveOf rec (some m) (ofN live) τ2).bind fun q3 => if q3.1 = x1 then some ((0 : Int32), q3.2) else some ((1 : Int32), q3.2)) (z := ofN live) (b := b) 500 FUEL i false hi (by omega) (by unfold FUEL; omega)
  dsimp only at e3 s3 ⊢
  rw [show X7_plainOf rec (some m) (ofN live) (hw σ (stE m I (G + i) b) L) = _ from ns]
  simp (disch := first | omega | assumption) only [e3, mgI, mgL, mpI, mpZ0, mpZ1, mpL, mcT, rZ0, rZ1, mR1, mA1, mS1, mR2, mA2, mS2, mR3, mA3, mS3, mR4, mA4, mS4, mR5, mA5, mS5, mR6, mA6, mS6, mR7, mA7, mS7, mR8, mA8, mS8, mR10, mA10, mS10, mR14, mA14, mS14, mR15, mA15, mS15, mR18, mA18, mS18, mR19, mA19, mS19, mR20, mA20, mS20, mR29, mA29, mS29, mR32, mA32, mS32, mR33, mA33, mS33, mR34, mA34, mS34, mR35, mA35, mS35, mR37, mA37, mS37, mR38, mA38, mS38, mR39, mA39, mS39, mR40, mA40, mS40, mR41, mA41, mS41, mR43, mA43, mS43, mR46, mA46, mS46, mR47, mA47, mS47, mR48, mA48, mS48, mR49, mA49, mS49, mR50, mA50, mS50, mR51, mA51, mS51, mR52, mA52, mS52, mR53, mA53, mS53, mR60, mA60, mS60, mR61, mA61, mS61, Option.bind_some, ofN_add, ofN_mul, ofN_sub, ofN_lt, ofN_le, ofN_inj, ofN_dec, ofN_lt_neg, neg_lt_ofN, ofN_le_neg, neg_le_ofN, ofN_eq_neg, neg_eq_ofN, ofN_irm, ofN_div, l0, l1, l2, l3, l4, l5, l6, l7, l8, l9, l10, l11, l12, l13, l14, l15, l16, l17, l18, l19, l20, l21, l22, l23, l24, l25, l26, l27, l28, l29, l30, l31, l32, l33, l34, l35, l36, l37, l38, l39, l40, l41, l42, l43, l44, l45, l46, l47, l48, l49, l50, l51, l52, l53, l54, l55, l56, l57, l58, l59, l60, l61, l62, l63, l64, l65, l66, l67, l68, l69, l70, l71, l72, l73, l74, l75, l76, l77, l78, l79, l80, l81, l82, l83, l84, l85, l86, l87, l88, l89, l90, l91, l92, l93, l94, l95, l96, l97, l98, l99, l100, l101, l102, l103, l104, l105, l106, l107, l108, l109, l110, l111, l112, l113, l114, l115, l116, l117, l118, l119, l120, l121, l122, l123, l124, l125, l126, l127, l128, l129, l130, l131, l196, l200, l245, l255, l368, l369, l370, l382, l383, l384, l385, l386, l387, l388, l394, l395, l400, l401, l617, l738, l800, l999, l1000, l1500, l1600, l2400, l3195, l5920, l5995, l11990, l99999, l1000000, l100000000, l1000000000, l2000000000, l2147483647]
  cases hnb : (pNots cd 500 i false).2 with
  | false =>
    refine ⟨x, b', ?_, hx, hb', s3⟩
    have hz : x = 0 ∨ x = 1 := by omega
    rcases hz with rfl | rfl
    · exact if_pos (show ofN 0 = (if false = true then ofN 1 else ofN 0) from rfl)
    · exact if_neg (show ¬ ofN 1 = (if false = true then ofN 1 else ofN 0) by decide)
  | true =>
    refine ⟨1 - x, b', ?_, by omega, hb', ?_⟩
    · have hz : x = 0 ∨ x = 1 := by omega
      rcases hz with rfl | rfl
      · exact if_neg (show ¬ ofN 0 = (if true = true then ofN 1 else ofN 0) by decide)
      · exact if_pos (show ofN 1 = (if true = true then ofN 1 else ofN 0) from rfl)
    · split
      · next hz =>
        rw [if_pos hz] at s3
        unfold negD
        rw [if_pos rfl]
        rcases s3 with ⟨y1, y2⟩ | ⟨y1, y2⟩
        · refine Or.inl ⟨?_, y2⟩
          rw [y1]
          have hz : x = 0 ∨ x = 1 := by omega
          rcases hz with rfl | rfl <;> rfl
        · refine Or.inr ⟨?_, y2⟩
          rw [y1]
          rfl
      · next hz =>
        rw [if_neg hz] at s3
        exact s3
/-- a row of tests: 'and' (c = 5), 'or' (c = 4) -/
theorem E_bothF (h : MSh m σ) (hE : EvC m I ord cd vl G T) (hT : Tk cd vl T) {rec : Option Nat → Int32 → Hp → Option (Int32 × Hp)} {part : Nat → Nat → PR DT} (hrd : RdT T part) (hp : ∀ i lv q, part i lv = .inr q → i ≤ T → SpT m σ I L ord G (X7_plainOf rec) i q.1 q.2.2) {live b0 : Nat} (hl : live ≤ 1) :
    ∀ (r fuel i lv : Nat) (d : DT) (q : Nat × Nat × DT) (x b : Nat), pTRow cd 5 andD part r i lv d = .inr q → i ≤ T → lv ≤ 50 → 500 ≤ r + i → r < fuel → ST live b0 (d (envI m I ord)) x b →
    ∃ x' b', X7_bothOf_c6 rec (some m) (ofN live) fuel (ofN x) (hw σ (stE m I (G + i) b) L) = some (ofN x', hw σ (stE m I (G + q.1) b') L) ∧ ST live b0 (q.2.2 (envI m I ord)) x' b' := by
  intro r
  have hT1 := hT.1
  induction r with
  | zero => intro fuel i lv d q x b _ hi _ h5; omega
  | succ r ih =>
    intro fuel i lv d q x b hq hi hlv h5 hf hs
    obtain ⟨f, rfl⟩ : ∃ f, fuel = f + 1 := ⟨fuel - 1, by omega⟩
    obtain ⟨hx, hb, s1⟩ := hs
    have hz : x = 0 ∨ x = 1 := by omega
    have rz : ∀ τ, rZ (ofN x) τ = some (ofN x, τ) := fun τ => rZ_ok (hz.elim (fun z => Or.inl (by rw [z])) (fun z => Or.inr (by rw [z])))
    have ps := E_passes (L := L) h hT hE (i := i) (b := b) (c := 5) hi (by omega)
    unfold pTRow at hq
    simp (disch := first | omega | assumption) only [X7_bothOf_c6, ps, mgI, mgL, mpI, mpZ0, mpZ1, mpL, mcT, rZ0, rZ1, mR1, mA1, mS1, mR2, mA2, mS2, mR3, mA3, mS3, mR4, mA4, mS4, mR5, mA5, mS5, mR6, mA6, mS6, mR7, mA7, mS7, mR8, mA8, mS8, mR10, mA10, mS10, mR14, mA14, mS14, mR15, mA15, mS15, mR18, mA18, mS18, mR19, mA19, mS19, mR20, mA20, mS20, mR29, mA29, mS29, mR32, mA32, mS32, mR33, mA33, mS33, mR34, mA34, mS34, mR35, mA35, mS35, mR37, mA37, mS37, mR38, mA38, mS38, mR39, mA39, mS39, mR40, mA40, mS40, mR41, mA41, mS41, mR43, mA43, mS43, mR46, mA46, mS46, mR47, mA47, mS47, mR48, mA48, mS48, mR49, mA49, mS49, mR50, mA50, mS50, mR51, mA51, mS51, mR52, mA52, mS52, mR53, mA53, mS53, mR60, mA60, mS60, mR61, mA61, mS61, Option.bind_some, ofN_add, ofN_mul, ofN_sub, ofN_lt, ofN_le, ofN_inj, ofN_dec, ofN_lt_neg, neg_lt_ofN, ofN_le_neg, neg_le_ofN, ofN_eq_neg, neg_eq_ofN, ofN_irm, ofN_div, l0, l1, l2, l3, l4, l5, l6, l7, l8, l9, l10, l11, l12, l13, l14, l15, l16, l17, l18, l19, l20, l21, l22, l23, l24, l25, l26, l27, l28, l29, l30, l31, l32, l33, l34, l35, l36, l37, l38, l39, l40, l41, l42, l43, l44, l45, l46, l47, l48, l49, l50, l51, l52, l53, l54, l55, l56, l57, l58, l59, l60, l61, l62, l63, l64, l65, l66, l67, l68, l69, l70, l71, l72, l73, l74, l75, l76, l77, l78, l79, l80, l81, l82, l83, l84, l85, l86, l87, l88, l89, l90, l91, l92, l93, l94, l95, l96, l97, l98, l99, l100, l101, l102, l103, l104, l105, l106, l107, l108, l109, l110, l111, l112, l113, l114, l115, l116, l117, l118, l119, l120, l121, l122, l123, l124, l125, l126, l127, l128, l129, l130, l131, l196, l200, l245, l255, l368, l369, l370, l382, l383, l384, l385, l386, l387, l388, l394, l395, l400, l401, l617, l738, l800, l999, l1000, l1500, l1600, l2400, l3195, l5920, l5995, l11990, l99999, l1000000, l100000000, l1000000000, l2000000000, l2147483647]
    by_cases hc : cd i = 5
    · rw [if_pos hc] at hq ⊢
      have hi2 : i < T := hT.pos (by omega)
      obtain ⟨i', lv', d', e1, e2⟩ := pBd_inr hq
      obtain ⟨a1, a2, a3, a4⟩ := hrd (i + 1) lv _ e1 (by omega)
      dsimp only at a1 a2 a3 a4
      simp (disch := first | omega | assumption) only [Option.bind_some, ofN_add, ofN_mul, ofN_sub, ofN_lt, ofN_le, ofN_inj, ofN_dec, ofN_lt_neg, neg_lt_ofN, ofN_le_neg, neg_le_ofN, ofN_eq_neg, neg_eq_ofN, ofN_irm, ofN_div, l0, l1, l2, l3, l4, l5, l6, l7, l8, l9, l10, l11, l12, l13, l14, l15, l16, l17, l18, l19, l20, l21, l22, l23, l24, l25, l26, l27, l28, l29, l30, l31, l32, l33, l34, l35, l36, l37, l38, l39, l40, l41, l42, l43, l44, l45, l46, l47, l48, l49, l50, l51, l52, l53, l54, l55, l56, l57, l58, l59, l60, l61, l62, l63, l64, l65, l66, l67, l68, l69, l70, l71, l72, l73, l74, l75, l76, l77, l78, l79, l80, l81, l82, l83, l84, l85, l86, l87, l88, l89, l90, l91, l92, l93, l94, l95, l96, l97, l98, l99, l100, l101, l102, l103, l104, l105, l106, l107, l108, l109, l110, l111, l112, l113, l114, l115, l116, l117, l118, l119, l120, l121, l122, l123, l124, l125, l126, l127, l128, l129, l130, l131, l196, l200, l245, l255, l368, l369, l370, l382, l383, l384, l385, l386, l387, l388, l394, l395, l400, l401, l617, l738, l800, l999, l1000, l1500, l1600, l2400, l3195, l5920, l5995, l11990, l99999, l1000000, l100000000, l1000000000, l2000000000, l2147483647]
      rw [if_neg (by omega)]
      have go : ∀ lv1, lv1 ≤ 1 → (lv1 = 1 ↔ live = 1 ∧ x = 1) → ∃ x' b', X7_bothOf_c28 rec (X7_bothOf_c6 rec (some m) (ofN live) f) (some m) (ofN live) (ofN x) (some m) (ofN lv1) (hw σ (stE m I (G + (i + 1)) b) L) = some (ofN x', hw σ (stE m I (G + q.1) b') L) ∧ ST live b0 (q.2.2 (envI m I ord)) x' b' := by
        intro lv1 hlv1 hiff
        obtain ⟨y, b1, e3, hy, hb1, s3⟩ := hp (i + 1) lv _ e1 (by omega) lv1 b hlv1 hb
        dsimp only at e3 s3
        have step : X7_bothOf_c28 rec (X7_bothOf_c6 rec (some m) (ofN live) f) (some m) (ofN live) (ofN x) (some m) (ofN lv1) (hw σ (stE m I (G + (i + 1)) b) L) = X7_bothOf_c6 rec (some m) (ofN live) f (ofN (if x = 0 then 0 else y)) (hw σ (stE m I (G + i') b1) L) := by
          simp (disch := first | omega | assumption) only [X7_bothOf_c28, e3, mgI, mgL, mpI, mpZ0, mpZ1, mpL, mcT, rZ0, rZ1, mR1, mA1, mS1, mR2, mA2, mS2, mR3, mA3, mS3, mR4, mA4, mS4, mR5, mA5, mS5, mR6, mA6, mS6, mR7, mA7, mS7, mR8, mA8, mS8, mR10, mA10, mS10, mR14, mA14, mS14, mR15, mA15, mS15, mR18, mA18, mS18, mR19, mA19, mS19, mR20, mA20, mS20, mR29, mA29, mS29, mR32, mA32, mS32, mR33, mA33, mS33, mR34, mA34, mS34, mR35, mA35, mS35, mR37, mA37, mS37, mR38, mA38, mS38, mR39, mA39, mS39, mR40, mA40, mS40, mR41, mA41, mS41, mR43, mA43, mS43, mR46, mA46, mS46, mR47, mA47, mS47, mR48, mA48, mS48, mR49, mA49, mS49, mR50, mA50, mS50, mR51, mA51, mS51, mR52, mA52, mS52, mR53, mA53, mS53, mR60, mA60, mS60, mR61, mA61, mS61, Option.bind_some, ofN_add, ofN_mul, ofN_sub, ofN_lt, ofN_le, ofN_inj, ofN_dec, ofN_lt_neg, neg_lt_ofN, ofN_le_neg, neg_le_ofN, ofN_eq_neg, neg_eq_ofN, ofN_irm, ofN_div, l0, l1, l2, l3, l4, l5, l6, l7, l8, l9, l10, l11, l12, l13, l14, l15, l16, l17, l18, l19, l20, l21, l22, l23, l24, l25, l26, l27, l28, l29, l30, l31, l32, l33, l34, l35, l36, l37, l38, l39, l40, l41, l42, l43, l44, l45, l46, l47, l48, l49, l50, l51, l52, l53, l54, l55, l56, l57, l58, l59, l60, l61, l62, l63, l64, l65, l66, l67, l68, l69, l70, l71, l72, l73, l74, l75, l76, l77, l78, l79, l80, l81, l82, l83, l84, l85, l86, l87, l88, l89, l90, l91, l92, l93, l94, l95, l96, l97, l98, l99, l100, l101, l102, l103, l104, l105, l106, l107, l108, l109, l110, l111, l112, l113, l114, l115, l116, l117, l118, l119, l120, l121, l122, l123, l124, l125, l126, l127, l128, l129, l130, l131, l196, l200, l245, l255, l368, l369, l370, l382, l383, l384, l385, l386, l387, l388, l394, l395, l400, l401, l617, l738, l800, l999, l1000, l1500, l1600, l2400, l3195, l5920, l5995, l11990, l99999, l1000000, l100000000, l1000000000, l2000000000, l2147483647]
          by_cases x0 : x = 0
          · rw [if_pos x0, if_pos x0]
          · rw [if_neg x0, if_neg x0]
            by_cases y0 : y = 0
            · rw [if_pos y0, y0]
            · rw [if_neg y0, show y = 1 by omega]
        rw [step]
        refine ih f i' lv' _ q _ b1 e2 a2 a4 (by omega) (by omega) ⟨by split <;> omega, hb1, ?_⟩
        split
        · next hz0 =>
          rw [if_pos hz0] at s1
          unfold andD
          rcases s1 with ⟨y1, y2⟩ | ⟨y1, y2⟩
          · rw [y1]
            by_cases x0 : x = 0
            · rw [if_neg (by omega)] at s3
              rw [if_pos x0]
              refine Or.inl ⟨?_, by omega⟩
              subst x0
              rfl
            · have x1 : x = 1 := by omega
              rw [if_pos ⟨hiff.mpr ⟨hz0.1, x1⟩, y2⟩] at s3
              rw [if_neg x0]
              subst x1
              exact s3
          · rw [y1]
            rw [if_neg (by omega)] at s3
            exact Or.inr ⟨rfl, by omega⟩
        · next hz0 =>
          rw [if_neg hz0] at s1
          rw [if_neg (by have := hiff; omega)] at s3
          omega
      by_cases h0 : live = 0
      · rw [if_pos h0]
        exact go 0 (by omega) ⟨fun z => by omega, fun z => by omega⟩
      · rw [if_neg h0]
        by_cases x0 : x = 0
        · rw [if_pos x0]
          exact go 0 (by omega) ⟨fun z => by omega, fun z => by omega⟩
        · rw [if_neg x0]
          exact go 1 (by omega) ⟨fun z => by omega, fun z => rfl⟩
    · rw [if_neg hc] at hq ⊢
      cases hq
      simp (disch := first | omega | assumption) only [if_true, Option.bind_some, ofN_add, ofN_mul, ofN_sub, ofN_lt, ofN_le, ofN_inj, ofN_dec, ofN_lt_neg, neg_lt_ofN, ofN_le_neg, neg_le_ofN, ofN_eq_neg, neg_eq_ofN, ofN_irm, ofN_div, l0, l1, l2, l3, l4, l5, l6, l7, l8, l9, l10, l11, l12, l13, l14, l15, l16, l17, l18, l19, l20, l21, l22, l23, l24, l25, l26, l27, l28, l29, l30, l31, l32, l33, l34, l35, l36, l37, l38, l39, l40, l41, l42, l43, l44, l45, l46, l47, l48, l49, l50, l51, l52, l53, l54, l55, l56, l57, l58, l59, l60, l61, l62, l63, l64, l65, l66, l67, l68, l69, l70, l71, l72, l73, l74, l75, l76, l77, l78, l79, l80, l81, l82, l83, l84, l85, l86, l87, l88, l89, l90, l91, l92, l93, l94, l95, l96, l97, l98, l99, l100, l101, l102, l103, l104, l105, l106, l107, l108, l109, l110, l111, l112, l113, l114, l115, l116, l117, l118, l119, l120, l121, l122, l123, l124, l125, l126, l127, l128, l129, l130, l131, l196, l200, l245, l255, l368, l369, l370, l382, l383, l384, l385, l386, l387, l388, l394, l395, l400, l401, l617, l738, l800, l999, l1000, l1500, l1600, l2400, l3195, l5920, l5995, l11990, l99999, l1000000, l100000000, l1000000000, l2000000000, l2147483647]
      rw [rz]
      exact ⟨x, b, rfl, hx, hb, s1⟩
theorem E_testF (h : MSh m σ) (hE : EvC m I ord cd vl G T) (hT : Tk cd vl T) {rec : Option Nat → Int32 → Hp → Option (Int32 × Hp)} {part : Nat → Nat → PR DT} (hrd : RdT T part) (hp : ∀ i lv q, part i lv = .inr q → i ≤ T → SpT m σ I L ord G (X7_bothOf rec) i q.1 q.2.2) {live b0 : Nat} (hl : live ≤ 1) :
    ∀ (r fuel i lv : Nat) (d : DT) (q : Nat × Nat × DT) (x b : Nat), pTRow cd 4 orD part r i lv d = .inr q → i ≤ T → lv ≤ 50 → 500 ≤ r + i → r < fuel → ST live b0 (d (envI m I ord)) x b →
    ∃ x' b', X7_testOf_c6 rec (some m) (ofN live) fuel (ofN x) (hw σ (stE m I (G + i) b) L) = some (ofN x', hw σ (stE m I (G + q.1) b') L) ∧ ST live b0 (q.2.2 (envI m I ord)) x' b' := by
  intro r
  have hT1 := hT.1
  induction r with
  | zero => intro fuel i lv d q x b _ hi _ h5; omega
  | succ r ih =>
    intro fuel i lv d q x b hq hi hlv h5 hf hs
    obtain ⟨f, rfl⟩ : ∃ f, fuel = f + 1 := ⟨fuel - 1, by omega⟩
    obtain ⟨hx, hb, s1⟩ := hs
    have hz : x = 0 ∨ x = 1 := by omega
    have rz : ∀ τ, rZ (ofN x) τ = some (ofN x, τ) := fun τ => rZ_ok (hz.elim (fun z => Or.inl (by rw [z])) (fun z => Or.inr (by rw [z])))
    have ps := E_passes (L := L) h hT hE (i := i) (b := b) (c := 4) hi (by omega)
    unfold pTRow at hq
    simp (disch := first | omega | assumption) only [X7_testOf_c6, ps, mgI, mgL, mpI, mpZ0, mpZ1, mpL, mcT, rZ0, rZ1, mR1, mA1, mS1, mR2, mA2, mS2, mR3, mA3, mS3, mR4, mA4, mS4, mR5, mA5, mS5, mR6, mA6, mS6, mR7, mA7, mS7, mR8, mA8, mS8, mR10, mA10, mS10, mR14, mA14, mS14, mR15, mA15, mS15, mR18, mA18, mS18, mR19, mA19, mS19, mR20, mA20, mS20, mR29, mA29, mS29, mR32, mA32, mS32, mR33, mA33, mS33, mR34, mA34, mS34, mR35, mA35, mS35, mR37, mA37, mS37, mR38, mA38, mS38, mR39, mA39, mS39, mR40, mA40, mS40, mR41, mA41, mS41, mR43, mA43, mS43, mR46, mA46, mS46, mR47, mA47, mS47, mR48, mA48, mS48, mR49, mA49, mS49, mR50, mA50, mS50, mR51, mA51, mS51, mR52, mA52, mS52, mR53, mA53, mS53, mR60, mA60, mS60, mR61, mA61, mS61, Option.bind_some, ofN_add, ofN_mul, ofN_sub, ofN_lt, ofN_le, ofN_inj, ofN_dec, ofN_lt_neg, neg_lt_ofN, ofN_le_neg, neg_le_ofN, ofN_eq_neg, neg_eq_ofN, ofN_irm, ofN_div, l0, l1, l2, l3, l4, l5, l6, l7, l8, l9, l10, l11, l12, l13, l14, l15, l16, l17, l18, l19, l20, l21, l22, l23, l24, l25, l26, l27, l28, l29, l30, l31, l32, l33, l34, l35, l36, l37, l38, l39, l40, l41, l42, l43, l44, l45, l46, l47, l48, l49, l50, l51, l52, l53, l54, l55, l56, l57, l58, l59, l60, l61, l62, l63, l64, l65, l66, l67, l68, l69, l70, l71, l72, l73, l74, l75, l76, l77, l78, l79, l80, l81, l82, l83, l84, l85, l86, l87, l88, l89, l90, l91, l92, l93, l94, l95, l96, l97, l98, l99, l100, l101, l102, l103, l104, l105, l106, l107, l108, l109, l110, l111, l112, l113, l114, l115, l116, l117, l118, l119, l120, l121, l122, l123, l124, l125, l126, l127, l128, l129, l130, l131, l196, l200, l245, l255, l368, l369, l370, l382, l383, l384, l385, l386, l387, l388, l394, l395, l400, l401, l617, l738, l800, l999, l1000, l1500, l1600, l2400, l3195, l5920, l5995, l11990, l99999, l1000000, l100000000, l1000000000, l2000000000, l2147483647]
    by_cases hc : cd i = 4
    · rw [if_pos hc] at hq ⊢
      have hi2 : i < T := hT.pos (by omega)
      obtain ⟨i', lv', d', e1, e2⟩ := pBd_inr hq
      obtain ⟨a1, a2, a3, a4⟩ := hrd (i + 1) lv _ e1 (by omega)
      dsimp only at a1 a2 a3 a4
      simp (disch := first | omega | assumption) only [Option.bind_some, ofN_add, ofN_mul, ofN_sub, ofN_lt, ofN_le, ofN_inj, ofN_dec, ofN_lt_neg, neg_lt_ofN, ofN_le_neg, neg_le_ofN, ofN_eq_neg, neg_eq_ofN, ofN_irm, ofN_div, l0, l1, l2, l3, l4, l5, l6, l7, l8, l9, l10, l11, l12, l13, l14, l15, l16, l17, l18, l19, l20, l21, l22, l23, l24, l25, l26, l27, l28, l29, l30, l31, l32, l33, l34, l35, l36, l37, l38, l39, l40, l41, l42, l43, l44, l45, l46, l47, l48, l49, l50, l51, l52, l53, l54, l55, l56, l57, l58, l59, l60, l61, l62, l63, l64, l65, l66, l67, l68, l69, l70, l71, l72, l73, l74, l75, l76, l77, l78, l79, l80, l81, l82, l83, l84, l85, l86, l87, l88, l89, l90, l91, l92, l93, l94, l95, l96, l97, l98, l99, l100, l101, l102, l103, l104, l105, l106, l107, l108, l109, l110, l111, l112, l113, l114, l115, l116, l117, l118, l119, l120, l121, l122, l123, l124, l125, l126, l127, l128, l129, l130, l131, l196, l200, l245, l255, l368, l369, l370, l382, l383, l384, l385, l386, l387, l388, l394, l395, l400, l401, l617, l738, l800, l999, l1000, l1500, l1600, l2400, l3195, l5920, l5995, l11990, l99999, l1000000, l100000000, l1000000000, l2000000000, l2147483647]
      rw [if_neg (by omega)]
      have go : ∀ lv1, lv1 ≤ 1 → (lv1 = 1 ↔ live = 1 ∧ x = 0) → ∃ x' b', X7_testOf_c28 rec (X7_testOf_c6 rec (some m) (ofN live) f) (some m) (ofN live) (ofN x) (some m) (ofN lv1) (hw σ (stE m I (G + (i + 1)) b) L) = some (ofN x', hw σ (stE m I (G + q.1) b') L) ∧ ST live b0 (q.2.2 (envI m I ord)) x' b' := by
        intro lv1 hlv1 hiff
        obtain ⟨y, b1, e3, hy, hb1, s3⟩ := hp (i + 1) lv _ e1 (by omega) lv1 b hlv1 hb
        dsimp only at e3 s3
        have step : X7_testOf_c28 rec (X7_testOf_c6 rec (some m) (ofN live) f) (some m) (ofN live) (ofN x) (some m) (ofN lv1) (hw σ (stE m I (G + (i + 1)) b) L) = X7_testOf_c6 rec (some m) (ofN live) f (ofN (if x = 0 then y else 1)) (hw σ (stE m I (G + i') b1) L) := by
          simp (disch := first | omega | assumption) only [X7_testOf_c28, e3, mgI, mgL, mpI, mpZ0, mpZ1, mpL, mcT, rZ0, rZ1, mR1, mA1, mS1, mR2, mA2, mS2, mR3, mA3, mS3, mR4, mA4, mS4, mR5, mA5, mS5, mR6, mA6, mS6, mR7, mA7, mS7, mR8, mA8, mS8, mR10, mA10, mS10, mR14, mA14, mS14, mR15, mA15, mS15, mR18, mA18, mS18, mR19, mA19, mS19, mR20, mA20, mS20, mR29, mA29, mS29, mR32, mA32, mS32, mR33, mA33, mS33, mR34, mA34, mS34, mR35, mA35, mS35, mR37, mA37, mS37, mR38, mA38, mS38, mR39, mA39, mS39, mR40, mA40, mS40, mR41, mA41, mS41, mR43, mA43, mS43, mR46, mA46, mS46, mR47, mA47, mS47, mR48, mA48, mS48, mR49, mA49, mS49, mR50, mA50, mS50, mR51, mA51, mS51, mR52, mA52, mS52, mR53, mA53, mS53, mR60, mA60, mS60, mR61, mA61, mS61, Option.bind_some, ofN_add, ofN_mul, ofN_sub, ofN_lt, ofN_le, ofN_inj, ofN_dec, ofN_lt_neg, neg_lt_ofN, ofN_le_neg, neg_le_ofN, ofN_eq_neg, neg_eq_ofN, ofN_irm, ofN_div, l0, l1, l2, l3, l4, l5, l6, l7, l8, l9, l10, l11, l12, l13, l14, l15, l16, l17, l18, l19, l20, l21, l22, l23, l24, l25, l26, l27, l28, l29, l30, l31, l32, l33, l34, l35, l36, l37, l38, l39, l40, l41, l42, l43, l44, l45, l46, l47, l48, l49, l50, l51, l52, l53, l54, l55, l56, l57, l58, l59, l60, l61, l62, l63, l64, l65, l66, l67, l68, l69, l70, l71, l72, l73, l74, l75, l76, l77, l78, l79, l80, l81, l82, l83, l84, l85, l86, l87, l88, l89, l90, l91, l92, l93, l94, l95, l96, l97, l98, l99, l100, l101, l102, l103, l104, l105, l106, l107, l108, l109, l110, l111, l112, l113, l114, l115, l116, l117, l118, l119, l120, l121, l122, l123, l124, l125, l126, l127, l128, l129, l130, l131, l196, l200, l245, l255, l368, l369, l370, l382, l383, l384, l385, l386, l387, l388, l394, l395, l400, l401, l617, l738, l800, l999, l1000, l1500, l1600, l2400, l3195, l5920, l5995, l11990, l99999, l1000000, l100000000, l1000000000, l2000000000, l2147483647]
          by_cases x0 : x = 0
          · rw [if_pos x0, if_pos x0]
            by_cases y0 : y = 0
            · rw [if_pos y0, y0]
            · rw [if_neg y0, show y = 1 by omega]
          · rw [if_neg x0, if_neg x0]
        rw [step]
        refine ih f i' lv' _ q _ b1 e2 a2 a4 (by omega) (by omega) ⟨by split <;> omega, hb1, ?_⟩
        split
        · next hz0 =>
          rw [if_pos hz0] at s1
          unfold orD
          rcases s1 with ⟨y1, y2⟩ | ⟨y1, y2⟩
          · rw [y1]
            by_cases x0 : x = 0
            · rw [if_pos ⟨hiff.mpr ⟨hz0.1, x0⟩, y2⟩] at s3
              rw [if_pos x0]
              subst x0
              exact s3
            · have x1 : x = 1 := by omega
              rw [if_neg (by omega)] at s3
              rw [if_neg x0]
              refine Or.inl ⟨?_, by omega⟩
              subst x1
              rfl
          · rw [y1]
            rw [if_neg (by omega)] at s3
            exact Or.inr ⟨rfl, by omega⟩
        · next hz0 =>
          rw [if_neg hz0] at s1
          rw [if_neg (by have := hiff; omega)] at s3
          omega
      by_cases h0 : live = 0
      · rw [if_pos h0]
        exact go 0 (by omega) ⟨fun z => by omega, fun z => by omega⟩
      · rw [if_neg h0]
        by_cases x0 : x = 0
        · rw [if_pos x0]
          exact go 1 (by omega) ⟨fun z => by omega, fun z => rfl⟩
        · rw [if_neg x0]
          exact go 0 (by omega) ⟨fun z => by omega, fun z => by omega⟩
    · rw [if_neg hc] at hq ⊢
      cases hq
      simp (disch := first | omega | assumption) only [if_true, Option.bind_some, ofN_add, ofN_mul, ofN_sub, ofN_lt, ofN_le, ofN_inj, ofN_dec, ofN_lt_neg, neg_lt_ofN, ofN_le_neg, neg_le_ofN, ofN_eq_neg, neg_eq_ofN, ofN_irm, ofN_div, l0, l1, l2, l3, l4, l5, l6, l7, l8, l9, l10, l11, l12, l13, l14, l15, l16, l17, l18, l19, l20, l21, l22, l23, l24, l25, l26, l27, l28, l29, l30, l31, l32, l33, l34, l35, l36, l37, l38, l39, l40, l41, l42, l43, l44, l45, l46, l47, l48, l49, l50, l51, l52, l53, l54, l55, l56, l57, l58, l59, l60, l61, l62, l63, l64, l65, l66, l67, l68, l69, l70, l71, l72, l73, l74, l75, l76, l77, l78, l79, l80, l81, l82, l83, l84, l85, l86, l87, l88, l89, l90, l91, l92, l93, l94, l95, l96, l97, l98, l99, l100, l101, l102, l103, l104, l105, l106, l107, l108, l109, l110, l111, l112, l113, l114, l115, l116, l117, l118, l119, l120, l121, l122, l123, l124, l125, l126, l127, l128, l129, l130, l131, l196, l200, l245, l255, l368, l369, l370, l382, l383, l384, l385, l386, l387, l388, l394, l395, l400, l401, l617, l738, l800, l999, l1000, l1500, l1600, l2400, l3195, l5920, l5995, l11990, l99999, l1000000, l100000000, l1000000000, l2000000000, l2147483647]
      rw [rz]
      exact ⟨x, b, rfl, hx, hb, s1⟩
theorem E_both (h : MSh m σ) (hE : EvC m I ord cd vl G T) (hT : Tk cd vl T) (he : EOK (envI m I ord)) {e : Nat} (he8 : e < 12) {rec : Option Nat → Int32 → Hp → Option (Int32 × Hp)} {rc : Option (Nat → Nat → PR DT)} (hrd : ∀ r, rc = some r → RdT T r)
    (hrec : ∀ r, rc = some r → ∀ i lv q, r i lv = .inr q → i ≤ T → SpT m σ I L ord G rec i q.1 q.2.2) {i lv : Nat} {q : Nat × Nat × DT} (hq : pBoth ord cd vl e rc i lv = .inr q) (hi : i ≤ T) : SpT m σ I L ord G (X7_bothOf rec) i q.1 q.2.2 := by
  intro live b hl hb
  unfold pBoth at hq
  obtain ⟨i', lv', d', e1, e2⟩ := pBd_inr hq
  obtain ⟨a1, a2, a3, a4⟩ := pPlain_rd hT hrd i lv _ e1 hi
  obtain ⟨x, b1, e3, s3⟩ := E_plain h hE hT he he8 hrd hrec e1 hi live b hl hb
  obtain ⟨x', b', e5, s5⟩ := E_bothF h hE hT (pPlain_rd hT hrd) (fun i lv q hq hi => E_plain h hE hT he he8 hrd hrec hq hi) hl 500 FUEL i' lv' d' q x b1 e2 a2 a4 (by omega) (by unfold FUEL; omega) s3
  refine ⟨x', b', ?_, s5⟩
  simp (disch := first | omega | assumption) only [X7_bothOf, e3, mgI, mgL, mpI, mpZ0, mpZ1, mpL, mcT, rZ0, rZ1, mR1, mA1, mS1, mR2, mA2, mS2, mR3, mA3, mS3, mR4, mA4, mS4, mR5, mA5, mS5, mR6, mA6, mS6, mR7, mA7, mS7, mR8, mA8, mS8, mR10, mA10, mS10, mR14, mA14, mS14, mR15, mA15, mS15, mR18, mA18, mS18, mR19, mA19, mS19, mR20, mA20, mS20, mR29, mA29, mS29, mR32, mA32, mS32, mR33, mA33, mS33, mR34, mA34, mS34, mR35, mA35, mS35, mR37, mA37, mS37, mR38, mA38, mS38, mR39, mA39, mS39, mR40, mA40, mS40, mR41, mA41, mS41, mR43, mA43, mS43, mR46, mA46, mS46, mR47, mA47, mS47, mR48, mA48, mS48, mR49, mA49, mS49, mR50, mA50, mS50, mR51, mA51, mS51, mR52, mA52, mS52, mR53, mA53, mS53, mR60, mA60, mS60, mR61, mA61, mS61, Option.bind_some, ofN_add, ofN_mul, ofN_sub, ofN_lt, ofN_le, ofN_inj, ofN_dec, ofN_lt_neg, neg_lt_ofN, ofN_le_neg, neg_le_ofN, ofN_eq_neg, neg_eq_ofN, ofN_irm, ofN_div, l0, l1, l2, l3, l4, l5, l6, l7, l8, l9, l10, l11, l12, l13, l14, l15, l16, l17, l18, l19, l20, l21, l22, l23, l24, l25, l26, l27, l28, l29, l30, l31, l32, l33, l34, l35, l36, l37, l38, l39, l40, l41, l42, l43, l44, l45, l46, l47, l48, l49, l50, l51, l52, l53, l54, l55, l56, l57, l58, l59, l60, l61, l62, l63, l64, l65, l66, l67, l68, l69, l70, l71, l72, l73, l74, l75, l76, l77, l78, l79, l80, l81, l82, l83, l84, l85, l86, l87, l88, l89, l90, l91, l92, l93, l94, l95, l96, l97, l98, l99, l100, l101, l102, l103, l104, l105, l106, l107, l108, l109, l110, l111, l112, l113, l114, l115, l116, l117, l118, l119, l120, l121, l122, l123, l124, l125, l126, l127, l128, l129, l130, l131, l196, l200, l245, l255, l368, l369, l370, l382, l383, l384, l385, l386, l387, l388, l394, l395, l400, l401, l617, l738, l800, l999, l1000, l1500, l1600, l2400, l3195, l5920, l5995, l11990, l99999, l1000000, l100000000, l1000000000, l2000000000, l2147483647]
  exact e5
theorem E_test1 (h : MSh m σ) (hE : EvC m I ord cd vl G T) (hT : Tk cd vl T) (he : EOK (envI m I ord)) {e : Nat} (he8 : e < 12) {rec : Option Nat → Int32 → Hp → Option (Int32 × Hp)} {rc : Option (Nat → Nat → PR DT)} (hrd : ∀ r, rc = some r → RdT T r)
    (hrec : ∀ r, rc = some r → ∀ i lv q, r i lv = .inr q → i ≤ T → SpT m σ I L ord G rec i q.1 q.2.2) {i lv : Nat} {q : Nat × Nat × DT} (hq : pTest1 ord cd vl e rc i lv = .inr q) (hi : i ≤ T) : SpT m σ I L ord G (X7_testOf_b rec) i q.1 q.2.2 := by
  intro live b hl hb
  unfold pTest1 at hq
  obtain ⟨i', lv', d', e1, e2⟩ := pBd_inr hq
  obtain ⟨a1, a2, a3, a4⟩ := pBoth_rd hT hrd i lv _ e1 hi
  obtain ⟨x, b1, e3, s3⟩ := E_both h hE hT he he8 hrd hrec e1 hi live b hl hb
  obtain ⟨x', b', e5, s5⟩ := E_testF h hE hT (pBoth_rd hT hrd) (fun i lv q hq hi => E_both h hE hT he he8 hrd hrec hq hi) hl 500 FUEL i' lv' d' q x b1 e2 a2 a4 (by omega) (by unfold FUEL; omega) s3
  refine ⟨x', b', ?_, s5⟩
  simp (disch := first | omega | assumption) only [X7_testOf_b, e3, mgI, mgL, mpI, mpZ0, mpZ1, mpL, mcT, rZ0, rZ1, mR1, mA1, mS1, mR2, mA2, mS2, mR3, mA3, mS3, mR4, mA4, mS4, mR5, mA5, mS5, mR6, mA6, mS6, mR7, mA7, mS7, mR8, mA8, mS8, mR10, mA10, mS10, mR14, mA14, mS14, mR15, mA15, mS15, mR18, mA18, mS18, mR19, mA19, mS19, mR20, mA20, mS20, mR29, mA29, mS29, mR32, mA32, mS32, mR33, mA33, mS33, mR34, mA34, mS34, mR35, mA35, mS35, mR37, mA37, mS37, mR38, mA38, mS38, mR39, mA39, mS39, mR40, mA40, mS40, mR41, mA41, mS41, mR43, mA43, mS43, mR46, mA46, mS46, mR47, mA47, mS47, mR48, mA48, mS48, mR49, mA49, mS49, mR50, mA50, mS50, mR51, mA51, mS51, mR52, mA52, mS52, mR53, mA53, mS53, mR60, mA60, mS60, mR61, mA61, mS61, Option.bind_some, ofN_add, ofN_mul, ofN_sub, ofN_lt, ofN_le, ofN_inj, ofN_dec, ofN_lt_neg, neg_lt_ofN, ofN_le_neg, neg_le_ofN, ofN_eq_neg, neg_eq_ofN, ofN_irm, ofN_div, l0, l1, l2, l3, l4, l5, l6, l7, l8, l9, l10, l11, l12, l13, l14, l15, l16, l17, l18, l19, l20, l21, l22, l23, l24, l25, l26, l27, l28, l29, l30, l31, l32, l33, l34, l35, l36, l37, l38, l39, l40, l41, l42, l43, l44, l45, l46, l47, l48, l49, l50, l51, l52, l53, l54, l55, l56, l57, l58, l59, l60, l61, l62, l63, l64, l65, l66, l67, l68, l69, l70, l71, l72, l73, l74, l75, l76, l77, l78, l79, l80, l81, l82, l83, l84, l85, l86, l87, l88, l89, l90, l91, l92, l93, l94, l95, l96, l97, l98, l99, l100, l101, l102, l103, l104, l105, l106, l107, l108, l109, l110, l111, l112, l113, l114, l115, l116, l117, l118, l119, l120, l121, l122, l123, l124, l125, l126, l127, l128, l129, l130, l131, l196, l200, l245, l255, l368, l369, l370, l382, l383, l384, l385, l386, l387, l388, l394, l395, l400, l401, l617, l738, l800, l999, l1000, l1500, l1600, l2400, l3195, l5920, l5995, l11990, l99999, l1000000, l100000000, l1000000000, l2000000000, l2147483647]
  exact e5
theorem E_test (h : MSh m σ) (hE : EvC m I ord cd vl G T) (hT : Tk cd vl T) (he : EOK (envI m I ord)) : ∀ (e n i lv : Nat) (q : Nat × Nat × DT), e < n → e < 12 → pTest ord cd vl e i lv = .inr q → i ≤ T → SpT m σ I L ord G (X7_testOf n) i q.1 q.2.2
  | 0, n + 1, i, lv, q, _, h12, hq, hi => E_test1 h hE hT he h12 (rec := X7_testOf n) (fun r hr => by cases hr) (fun r hr => by cases hr) hq hi
  | e + 1, n + 1, i, lv, q, hn, h12, hq, hi => E_test1 h hE hT he h12 (rec := X7_testOf n) (fun r hr => by cases hr; exact pTest_rd hT e) (fun r hr => by cases hr; exact fun i lv q h1 h2 => E_test h hE hT he e n i lv q (by omega) (by omega) h1 h2) hq hi
end MTESTS
