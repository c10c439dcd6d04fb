set_option maxRecDepth 100000
/-! THE MODEL's EVALUATION of tokens -/
/-- tokens: T of them -/
def Tk (cd vl : Nat → Nat) (T : Nat) : Prop := T ≤ 400 ∧ (∀ i, T ≤ i → cd i = 0) ∧ (∀ i, cd i < 1000) ∧ ∀ i, vl i < 100000000
section PROG
variable {ord : Bool} {cd vl : Nat → Nat} {T : Nat}
/-- what a reading of sums leaves: it goes on, within the tokens, and is bounded -/
def Rd (T : Nat) (f : Nat → Nat → PR DS) : Prop := ∀ i lv q, f i lv = .inr q → i ≤ T → i < q.1 ∧ q.1 ≤ T ∧ lv < q.2.1 ∧ q.2.1 ≤ 50 ∧ DB q.2.2
theorem Tk.pos (h : Tk cd vl T) {i : Nat} (h0 : cd i ≠ 0) : i < T := by
  rcases Nat.lt_or_ge i T with z | z
  · exact z
  · exact absurd (h.2.1 i z) h0
theorem pLeaf_rd (h : Tk cd vl T) : Rd T (pLeaf ord cd vl) := by
  intro i lv q hq hi
  unfold pLeaf at hq
  split at hq
  · next hc =>
    have hi2 : i < T := h.pos (by
      intro e
      rw [e] at hc
      rcases hc with hc | hc
      · omega
      · cases ord <;> simp [okW] at hc)
    split at hq
    · cases hq
    · split at hq
      · split at hq
        · next h5 =>
          have hi3 : i + 1 < T := h.pos (by omega)
          cases hq
          dsimp only
          exact ⟨by omega, by omega, by omega, by omega, fun e he v hv => by cases hv; exact he _⟩
        · cases hq
      · next h50 hno =>
        cases hq
        refine ⟨Nat.lt_succ_self _, hi2, Nat.lt_succ_self _, show lv + 1 ≤ 50 by omega, ?_⟩
        show DB (if cd i = 50 then fun _ => some ((ofN (vl i)).toInt64) else fun e => some (e (cd i)))
        split
        · intro e he v hv
          cases hv
          have h9 := h.2.2.2 i
          unfold inB
          rw [Int32.toInt_toInt64, ofN_toInt (by omega)]
          omega
        · intro e he v hv
          cases hv
          exact he _
  · cases hq
theorem pPart_rd (h : Tk cd vl T) {rec : Option (Nat → Nat → PR DS)} (hr : ∀ r, rec = some r → Rd T r) : Rd T (pPart ord cd vl rec) := by
  intro i lv q hq hi
  unfold pPart at hq
  split at hq
  · next hc =>
    have hi2 : i < T := h.pos (by omega)
    cases rec with
    | none => cases hq
    | some r =>
      obtain ⟨i', lv', d, e1, e2⟩ := pBd_inr hq
      obtain ⟨a1, a2, a3, a4, a5⟩ := hr r rfl (i + 1) lv _ e1 (by omega)
      dsimp only at a1 a2 a3 a4 a5
      split at e2
      · next h9 =>
        have := h.pos (i := i') (by omega)
        cases e2
        exact ⟨by omega, by omega, a3, a4, a5⟩
      · cases e2
  · exact pLeaf_rd h i lv q hq hi
theorem pRow_rd (h : Tk cd vl T) {ok : Nat → Bool} (h0 : ok 0 = false) {part : Nat → Nat → PR DS} (hp : Rd T part) : ∀ (r i lv : Nat) (d : DS) (q : Nat × Nat × DS), pRow cd ok part r i lv d = .inr q → i ≤ T → lv ≤ 50 → DB d → i ≤ q.1 ∧ q.1 ≤ T ∧ lv ≤ q.2.1 ∧ q.2.1 ≤ 50 ∧ DB q.2.2
  | 0, i, lv, d, q, hq, hi, hl, hd => by
    cases hq
    exact ⟨Nat.le_refl _, hi, Nat.le_refl _, hl, hd⟩
  | r + 1, i, lv, d, q, hq, hi, hl, hd => by
    unfold pRow at hq
    split at hq
    · next hc =>
      have hi2 : i < T := h.pos (by intro e; rw [e, h0] at hc; cases hc)
      obtain ⟨i', lv', d', e1, e2⟩ := pBd_inr hq
      obtain ⟨a1, a2, a3, a4, a5⟩ := hp (i + 1) lv _ e1 (by omega)
      dsimp only at a1 a2 a3 a4 a5
      obtain ⟨b1, b2, b3, b4, b5⟩ := pRow_rd h h0 hp r i' lv' _ q e2 a2 a4 (jn_db hd)
      exact ⟨by omega, b2, by omega, b4, b5⟩
    · cases hq
      exact ⟨Nat.le_refl _, hi, Nat.le_refl _, hl, hd⟩
theorem pTerm_rd (h : Tk cd vl T) {rec : Option (Nat → Nat → PR DS)} (hr : ∀ r, rec = some r → Rd T r) : Rd T (pTerm ord cd vl rec) := by
  intro i lv q hq hi
  unfold pTerm at hq
  obtain ⟨i', lv', d', e1, e2⟩ := pBd_inr hq
  obtain ⟨a1, a2, a3, a4, a5⟩ := pPart_rd h hr i lv _ e1 hi
  obtain ⟨b1, b2, b3, b4, b5⟩ := pRow_rd h rfl (pPart_rd h hr) 500 i' lv' d' q e2 a2 a4 a5
  dsimp only at a1 a3
  exact ⟨by omega, b2, by omega, b4, b5⟩
theorem pSum1_rd (h : Tk cd vl T) {rec : Option (Nat → Nat → PR DS)} (hr : ∀ r, rec = some r → Rd T r) : Rd T (pSum1 ord cd vl rec) := by
  intro i lv q hq hi
  unfold pSum1 at hq
  obtain ⟨i', lv', d', e1, e2⟩ := pBd_inr hq
  obtain ⟨a1, a2, a3, a4, a5⟩ := pTerm_rd h hr i lv _ e1 hi
  obtain ⟨b1, b2, b3, b4, b5⟩ := pRow_rd h rfl (pTerm_rd h hr) 500 i' lv' d' q e2 a2 a4 a5
  dsimp only at a1 a3
  exact ⟨by omega, b2, by omega, b4, b5⟩
theorem pSum_rd (h : Tk cd vl T) : ∀ e, Rd T (pSum ord cd vl e)
  | 0 => pSum1_rd h (fun r hr => by cases hr)
  | e + 1 => pSum1_rd h (fun r hr => by cases hr; exact pSum_rd h e)
end PROG
/-- where evaluation stands: at a token; whether it is broken -/
def stE (m : Nat) (I : IM) (g b : Nat) : IM := up1 I m (ups (ups (I m) 25 (ofN g)) 27 (ofN b))
def envM (ord : Bool) (K A : Nat → Int32) (dn lt : Int32) : Env := fun c =>
  if ord = true then (if c = 12 then K 368 else if c = 13 then dn else if c = 14 then lt else if 100 ≤ c ∧ c < 104 then K (92 * (c - 100) + 25) else if 200 ≤ c ∧ c < 204 then K (92 * (c - 200)) else 0).toInt64 else (if 7 ≤ c ∧ c ≤ 12 then A (c - 7) else 0).toInt64
/-- tokens as they lie in kept -/
def EvC (m : Nat) (I : IM) (ord : Bool) (cd vl : Nat → Nat) (G T : Nat) : Prop := I m 26 = ofN (G + T) ∧ I m 28 = (if ord = true then ofN 1 else ofN 0) ∧ (∀ i, i < T → I (m + 2) (395 + (G + i)) = ofN (cd i) ∧ I (m + 2) (3195 + (G + i)) = ofN (vl i)) ∧ G ≤ 2400
section MEVAL
variable {m : Nat} {σ : Hp} {I : IM} {L : LM} {ord : Bool} {cd vl : Nat → Nat} {G T : Nat}
theorem stE_m {g b k : Nat} (h1 : k ≠ 25) (h2 : k ≠ 27) : stE m I g b m k = I m k := by
  unfold stE
  rw [up1_eq, ups_ne h2, ups_ne h1]
theorem stE_25 {g b : Nat} : stE m I g b m 25 = ofN g := by
  unfold stE
  rw [up1_eq, ups_ne (by omega), ups_eq]
theorem stE_27 {g b : Nat} : stE m I g b m 27 = ofN b := by
  unfold stE
  rw [up1_eq, ups_eq]
theorem stE_a {g b k : Nat} (h : 1 ≤ k) : stE m I g b (m + k) = I (m + k) := up1_ne (by omega)
theorem stE_set25 {g b g' : Nat} : up1 (stE m I g b) m (ups (stE m I g b m) 25 (ofN g')) = stE m I g' b := by
  unfold stE
  rw [up1_up1, up1_eq]
  congr 1
  funext k
  unfold ups
  grind
theorem stE_set27 {g b b' : Nat} : up1 (stE m I g b) m (ups (stE m I g b m) 27 (ofN b')) = stE m I g b' := by
  unfold stE
  rw [up1_up1, up1_eq, ups_ups]
theorem E_codeAt (h : MSh m σ) (hT : Tk cd vl T) (hE : EvC m I ord cd vl G T) {i g b : Nat} (hi : i ≤ T) : X7_codeAt (some m) (ofN (G + i)) (hw σ (stE m I g b) L) = some (ofN (cd i), hw σ (stE m I g b) L) := by
  obtain ⟨e26, e28, et, hG⟩ := hE
  have hT4 := hT.1
  simp (disch := first | omega | assumption) only [X7_codeAt, stE_m, e26, mgI, mgL, mpI, mpZ0, mpZ1, mpL, mcT, rZ0, rZ1, mR1, mA1, mS1, mR2, mA2, mS2, mR3, mA3, mS3, mR4, mA4, mS4, mR5, mA5, mS5, mR6, mA6, mS6, mR7, mA7, mS7, mR8, mA8, mS8, mR10, mA10, mS10, mR14, mA14, mS14, mR15, mA15, mS15, mR18, mA18, mS18, mR19, mA19, mS19, mR20, mA20, mS20, mR29, mA29, mS29, mR32, mA32, mS32, mR33, mA33, mS33, mR34, mA34, mS34, mR35, mA35, mS35, mR37, mA37, mS37, mR38, mA38, mS38, mR39, mA39, mS39, mR40, mA40, mS40, mR41, mA41, mS41, mR43, mA43, mS43, mR46, mA46, mS46, mR47, mA47, mS47, mR48, mA48, mS48, mR49, mA49, mS49, mR50, mA50, mS50, mR51, mA51, mS51, mR52, mA52, mS52, mR53, mA53, mS53, mR60, mA60, mS60, mR61, mA61, mS61, Option.bind_some, ofN_add, ofN_mul, ofN_sub, ofN_lt, ofN_le, ofN_inj, ofN_dec, ofN_lt_neg, neg_lt_ofN, ofN_le_neg, neg_le_ofN, ofN_eq_neg, neg_eq_ofN, ofN_irm, ofN_div, l0, l1, l2, l3, l4, l5, l6, l7, l8, l9, l10, l11, l12, l13, l14, l15, l16, l17, l18, l19, l20, l21, l22, l23, l24, l25, l26, l27, l28, l29, l30, l31, l32, l33, l34, l35, l36, l37, l38, l39, l40, l41, l42, l43, l44, l45, l46, l47, l48, l49, l50, l51, l52, l53, l54, l55, l56, l57, l58, l59, l60, l61, l62, l63, l64, l65, l66, l67, l68, l69, l70, l71, l72, l73, l74, l75, l76, l77, l78, l79, l80, l81, l82, l83, l84, l85, l86, l87, l88, l89, l90, l91, l92, l93, l94, l95, l96, l97, l98, l99, l100, l101, l102, l103, l104, l105, l106, l107, l108, l109, l110, l111, l112, l113, l114, l115, l116, l117, l118, l119, l120, l121, l122, l123, l124, l125, l126, l127, l128, l129, l130, l131, l196, l200, l245, l255, l368, l369, l370, l382, l383, l384, l385, l386, l387, l388, l394, l395, l400, l401, l617, l738, l800, l999, l1000, l1500, l1600, l2400, l3195, l5920, l5995, l11990, l99999, l1000000, l100000000, l1000000000, l2000000000, l2147483647]
  by_cases hz : i = T
  · rw [if_pos (by omega), hT.2.1 i (by omega)]
  · rw [if_neg (by omega), stE_a (by omega), (et i (by omega)).1]
theorem E_passes (h : MSh m σ) (hT : Tk cd vl T) (hE : EvC m I ord cd vl G T) {i b c : Nat} (hi : i ≤ T) (hc : c < 1000) : X7_passes0 (some m) (ofN c) (hw σ (stE m I (G + i) b) L) = if cd i = c then some (ofN 1, hw σ (stE m I (G + (i + 1)) b) L) else some (ofN 0, hw σ (stE m I (G + i) b) L) := by
  have h1 := hT.2.2.1 i
  simp (disch := first | omega | assumption) only [X7_passes0, X7_passes0_c17, stE_25, E_codeAt h hT hE hi, stE_set25, mgI, mgL, mpI, mpZ0, mpZ1, mpL, mcT, rZ0, rZ1, mR1, mA1, mS1, mR2, mA2, mS2, mR3, mA3, mS3, mR4, mA4, mS4, mR5, mA5, mS5, mR6, mA6, mS6, mR7, mA7, mS7, mR8, mA8, mS8, mR10, mA10, mS10, mR14, mA14, mS14, mR15, mA15, mS15, mR18, mA18, mS18, mR19, mA19, mS19, mR20, mA20, mS20, mR29, mA29, mS29, mR32, mA32, mS32, mR33, mA33, mS33, mR34, mA34, mS34, mR35, mA35, mS35, mR37, mA37, mS37, mR38, mA38, mS38, mR39, mA39, mS39, mR40, mA40, mS40, mR41, mA41, mS41, mR43, mA43, mS43, mR46, mA46, mS46, mR47, mA47, mS47, mR48, mA48, mS48, mR49, mA49, mS49, mR50, mA50, mS50, mR51, mA51, mS51, mR52, mA52, mS52, mR53, mA53, mS53, mR60, mA60, mS60, mR61, mA61, mS61, Option.bind_some, ofN_add, ofN_mul, ofN_sub, ofN_lt, ofN_le, ofN_inj, ofN_dec, ofN_lt_neg, neg_lt_ofN, ofN_le_neg, neg_le_ofN, ofN_eq_neg, neg_eq_ofN, ofN_irm, ofN_div, l0, l1, l2, l3, l4, l5, l6, l7, l8, l9, l10, l11, l12, l13, l14, l15, l16, l17, l18, l19, l20, l21, l22, l23, l24, l25, l26, l27, l28, l29, l30, l31, l32, l33, l34, l35, l36, l37, l38, l39, l40, l41, l42, l43, l44, l45, l46, l47, l48, l49, l50, l51, l52, l53, l54, l55, l56, l57, l58, l59, l60, l61, l62, l63, l64, l65, l66, l67, l68, l69, l70, l71, l72, l73, l74, l75, l76, l77, l78, l79, l80, l81, l82, l83, l84, l85, l86, l87, l88, l89, l90, l91, l92, l93, l94, l95, l96, l97, l98, l99, l100, l101, l102, l103, l104, l105, l106, l107, l108, l109, l110, l111, l112, l113, l114, l115, l116, l117, l118, l119, l120, l121, l122, l123, l124, l125, l126, l127, l128, l129, l130, l131, l196, l200, l245, l255, l368, l369, l370, l382, l383, l384, l385, l386, l387, l388, l394, l395, l400, l401, l617, l738, l800, l999, l1000, l1500, l1600, l2400, l3195, l5920, l5995, l11990, l99999, l1000000, l100000000, l1000000000, l2000000000, l2147483647]
  by_cases hz : cd i = c
  · rw [if_pos hz, if_pos hz, if_neg (by omega), Nat.add_assoc]
  · rw [if_neg hz, if_neg hz, if_true]
/-- told, or broken -/
def optB {α : Type} (o : Option α) (v : α) (b : Nat) : Prop := (o = some v ∧ b = 0) ∨ (o = none ∧ b = 1)
def SV (live b0 : Nat) (o : Option Int64) (v : Int64) (b : Nat) : Prop := b ≤ 1 ∧ if live = 1 ∧ b0 = 0 then optB o v b else b = b0
theorem cmp_gt {v : Int64} : (0 < lg_cmp v 1000000000) = (1000000000 < v) := propext (lg_cmp_gt v 1000000000)
theorem cmp_ge {v : Int64} : (0 ≤ lg_cmp v (-1000000000)) = (-1000000000 ≤ v) := propext (lg_cmp_ge v (-1000000000))
theorem E_bounded (h : MSh m σ) {g b live : Nat} {v : Int64} (hb : b ≤ 1) (hl : live ≤ 1) : ∃ v' b', X7_bounded (some m) v (ofN live) (hw σ (stE m I g b) L) = some (v', hw σ (stE m I g b') L) ∧ SV live b (wth v) v' b' := by
  have c25 : ∀ b', b' ≤ 1 → X7_bounded_c25 (some m) v (hw σ (stE m I g b') L) = some (if b' = 0 then v else 0, hw σ (stE m I g b') L) := by
    intro b' hb'
    simp (disch := first | omega | assumption) only [X7_bounded_c25, stE_27, mgI, mgL, mpI, mpZ0, mpZ1, mpL, mcT, rZ0, rZ1, mR1, mA1, mS1, mR2, mA2, mS2, mR3, mA3, mS3, mR4, mA4, mS4, mR5, mA5, mS5, mR6, mA6, mS6, mR7, mA7, mS7, mR8, mA8, mS8, mR10, mA10, mS10, mR14, mA14, mS14, mR15, mA15, mS15, mR18, mA18, mS18, mR19, mA19, mS19, mR20, mA20, mS20, mR29, mA29, mS29, mR32, mA32, mS32, mR33, mA33, mS33, mR34, mA34, mS34, mR35, mA35, mS35, mR37, mA37, mS37, mR38, mA38, mS38, mR39, mA39, mS39, mR40, mA40, mS40, mR41, mA41, mS41, mR43, mA43, mS43, mR46, mA46, mS46, mR47, mA47, mS47, mR48, mA48, mS48, mR49, mA49, mS49, mR50, mA50, mS50, mR51, mA51, mS51, mR52, mA52, mS52, mR53, mA53, mS53, mR60, mA60, mS60, mR61, mA61, mS61, Option.bind_some, ofN_add, ofN_mul, ofN_sub, ofN_lt, ofN_le, ofN_inj, ofN_dec, ofN_lt_neg, neg_lt_ofN, ofN_le_neg, neg_le_ofN, ofN_eq_neg, neg_eq_ofN, ofN_irm, ofN_div, l0, l1, l2, l3, l4, l5, l6, l7, l8, l9, l10, l11, l12, l13, l14, l15, l16, l17, l18, l19, l20, l21, l22, l23, l24, l25, l26, l27, l28, l29, l30, l31, l32, l33, l34, l35, l36, l37, l38, l39, l40, l41, l42, l43, l44, l45, l46, l47, l48, l49, l50, l51, l52, l53, l54, l55, l56, l57, l58, l59, l60, l61, l62, l63, l64, l65, l66, l67, l68, l69, l70, l71, l72, l73, l74, l75, l76, l77, l78, l79, l80, l81, l82, l83, l84, l85, l86, l87, l88, l89, l90, l91, l92, l93, l94, l95, l96, l97, l98, l99, l100, l101, l102, l103, l104, l105, l106, l107, l108, l109, l110, l111, l112, l113, l114, l115, l116, l117, l118, l119, l120, l121, l122, l123, l124, l125, l126, l127, l128, l129, l130, l131, l196, l200, l245, l255, l368, l369, l370, l382, l383, l384, l385, l386, l387, l388, l394, l395, l400, l401, l617, l738, l800, l999, l1000, l1500, l1600, l2400, l3195, l5920, l5995, l11990, l99999, l1000000, l100000000, l1000000000, l2000000000, l2147483647]
    split <;> rfl
  have c20 : X7_bounded_c20 (some m) v (hw σ (stE m I g b) L) = some (0, hw σ (stE m I g 1) L) := by
    simp (disch := first | omega | assumption) only [X7_bounded_c20, stE_set27, mgI, mgL, mpI, mpZ0, mpZ1, mpL, mcT, rZ0, rZ1, mR1, mA1, mS1, mR2, mA2, mS2, mR3, mA3, mS3, mR4, mA4, mS4, mR5, mA5, mS5, mR6, mA6, mS6, mR7, mA7, mS7, mR8, mA8, mS8, mR10, mA10, mS10, mR14, mA14, mS14, mR15, mA15, mS15, mR18, mA18, mS18, mR19, mA19, mS19, mR20, mA20, mS20, mR29, mA29, mS29, mR32, mA32, mS32, mR33, mA33, mS33, mR34, mA34, mS34, mR35, mA35, mS35, mR37, mA37, mS37, mR38, mA38, mS38, mR39, mA39, mS39, mR40, mA40, mS40, mR41, mA41, mS41, mR43, mA43, mS43, mR46, mA46, mS46, mR47, mA47, mS47, mR48, mA48, mS48, mR49, mA49, mS49, mR50, mA50, mS50, mR51, mA51, mS51, mR52, mA52, mS52, mR53, mA53, mS53, mR60, mA60, mS60, mR61, mA61, mS61, Option.bind_some, ofN_add, ofN_mul, ofN_sub, ofN_lt, ofN_le, ofN_inj, ofN_dec, ofN_lt_neg, neg_lt_ofN, ofN_le_neg, neg_le_ofN, ofN_eq_neg, neg_eq_ofN, ofN_irm, ofN_div, l0, l1, l2, l3, l4, l5, l6, l7, l8, l9, l10, l11, l12, l13, l14, l15, l16, l17, l18, l19, l20, l21, l22, l23, l24, l25, l26, l27, l28, l29, l30, l31, l32, l33, l34, l35, l36, l37, l38, l39, l40, l41, l42, l43, l44, l45, l46, l47, l48, l49, l50, l51, l52, l53, l54, l55, l56, l57, l58, l59, l60, l61, l62, l63, l64, l65, l66, l67, l68, l69, l70, l71, l72, l73, l74, l75, l76, l77, l78, l79, l80, l81, l82, l83, l84, l85, l86, l87, l88, l89, l90, l91, l92, l93, l94, l95, l96, l97, l98, l99, l100, l101, l102, l103, l104, l105, l106, l107, l108, l109, l110, l111, l112, l113, l114, l115, l116, l117, l118, l119, l120, l121, l122, l123, l124, l125, l126, l127, l128, l129, l130, l131, l196, l200, l245, l255, l368, l369, l370, l382, l383, l384, l385, l386, l387, l388, l394, l395, l400, l401, l617, l738, l800, l999, l1000, l1500, l1600, l2400, l3195, l5920, l5995, l11990, l99999, l1000000, l100000000, l1000000000, l2000000000, l2147483647]
    rw [c25 1 (by omega), if_neg (by omega)]
  unfold SV
  by_cases hl0 : live = 0
  · subst hl0
    refine ⟨if b = 0 then v else 0, b, ?_, hb, by rw [if_neg (by omega)]⟩
    simp (disch := first | omega | assumption) only [X7_bounded, Option.bind_some, ofN_add, ofN_mul, ofN_sub, ofN_lt, ofN_le, ofN_inj, ofN_dec, ofN_lt_neg, neg_lt_ofN, ofN_le_neg, neg_le_ofN, ofN_eq_neg, neg_eq_ofN, ofN_irm, ofN_div, l0, l1, l2, l3, l4, l5, l6, l7, l8, l9, l10, l11, l12, l13, l14, l15, l16, l17, l18, l19, l20, l21, l22, l23, l24, l25, l26, l27, l28, l29, l30, l31, l32, l33, l34, l35, l36, l37, l38, l39, l40, l41, l42, l43, l44, l45, l46, l47, l48, l49, l50, l51, l52, l53, l54, l55, l56, l57, l58, l59, l60, l61, l62, l63, l64, l65, l66, l67, l68, l69, l70, l71, l72, l73, l74, l75, l76, l77, l78, l79, l80, l81, l82, l83, l84, l85, l86, l87, l88, l89, l90, l91, l92, l93, l94, l95, l96, l97, l98, l99, l100, l101, l102, l103, l104, l105, l106, l107, l108, l109, l110, l111, l112, l113, l114, l115, l116, l117, l118, l119, l120, l121, l122, l123, l124, l125, l126, l127, l128, l129, l130, l131, l196, l200, l245, l255, l368, l369, l370, l382, l383, l384, l385, l386, l387, l388, l394, l395, l400, l401, l617, l738, l800, l999, l1000, l1500, l1600, l2400, l3195, l5920, l5995, l11990, l99999, l1000000, l100000000, l1000000000, l2000000000, l2147483647]
    rw [if_true]
    exact c25 b hb
  · have hl1 : live = 1 := by omega
    subst hl1
    have e0 : ¬ (ofN 1 = (0 : Int32)) := by decide
    unfold X7_bounded
    rw [if_neg e0]
    by_cases h1 : (1000000000 : Int64) < v
    · rw [if_pos ((lg_cmp_gt v 1000000000).mpr h1), c20]
      refine ⟨_, 1, rfl, by omega, ?_⟩
      split
      · refine Or.inr ⟨?_, rfl⟩
        unfold wth
        rw [if_pos (Or.inl h1)]
      · next hz => omega
    · rw [if_neg (fun z => h1 ((lg_cmp_gt v 1000000000).mp z))]
      by_cases h2 : (-1000000000 : Int64) ≤ v
      · rw [if_pos ((lg_cmp_ge v (-1000000000)).mpr h2), c25 b hb]
        refine ⟨_, b, rfl, hb, ?_⟩
        split
        · next hz =>
          refine Or.inl ⟨?_, hz.2⟩
          unfold wth
          rw [if_pos hz.2, if_neg (fun z => z.elim h1 (fun z2 => (Int64.not_lt.mpr h2) z2))]
        · rfl
      · rw [if_neg (fun z => h2 ((lg_cmp_ge v (-1000000000)).mp z)), c20]
        refine ⟨_, 1, rfl, by omega, ?_⟩
        split
        · refine Or.inr ⟨?_, rfl⟩
          unfold wth
          rw [if_pos (Or.inr (Int64.not_le.mp h2))]
        · next hz => omega
theorem wth_of {v : Int64} (h : inB v) : wth v = some v := by
  unfold wth
  have e1 : (1000000000 : Int64).toInt = 1000000000 := rfl
  have e2 : (-1000000000 : Int64).toInt = -1000000000 := rfl
  have := h.1
  have := h.2
  rw [if_neg]
  rw [Int64.lt_iff_toInt_lt, Int64.lt_iff_toInt_lt]
  omega
end MEVAL
