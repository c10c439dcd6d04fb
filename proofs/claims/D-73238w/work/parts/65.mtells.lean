set_option maxRecDepth 100000
/-! CLAUSES of laws: head (1: costs, 2: bars), sum, test -/
abbrev CL : Type := Nat × Option DS × Option DT
section PCL
variable (ord : Bool) (cd vl : Nat → Nat) (T : Nat)
def pIf (i lv : Nat) : PR (Option DT) := if cd i = 3 then pBd (pTest ord cd vl 8 (i + 1) lv) fun i' lv' t => .inr (i', lv', some t) else .inr (i, lv, none)
def pCl (i lv : Nat) : PR CL :=
  if cd i = 1 then pBd (pSum ord cd vl 8 (i + 1) lv) fun i1 lv1 d => pBd (pIf ord cd vl i1 lv1) fun i2 lv2 t => .inr (i2, lv2, (1, some d, t))
  else if cd i = 2 then pBd (pIf ord cd vl (i + 1) lv) fun i2 lv2 t => .inr (i2, lv2, (2, none, t))
  else .inl i
/-- one behind an other, parted by semicolons, to the end: at most r + 1 -/
def pAll {α : Type} (one : Nat → Nat → PR α) : Nat → Nat → Nat → Nat ⊕ List α
  | r, i, lv => match one i lv with
    | .inl j => .inl j
    | .inr q => if cd q.1 = 159 then (match r with
        | 0 => .inl (q.1 + 1)
        | r + 1 => match pAll one r (q.1 + 1) q.2.1 with
          | .inl j => .inl j
          | .inr l => .inr (q.2.2 :: l)) else if q.1 < T then .inl q.1 else .inr [q.2.2]
end PCL
/-- what a clause tells -/
def clV (c : CL) (e : Env) : Option Int64 := match c.2.1 with
  | none => some 1
  | some d => d e
def optT (t : Option DT) (e : Env) : Bool := match t with
  | none => true
  | some t => t e == some true
def clT (c : CL) (e : Env) : Bool := optT c.2.2 e
def clamp (v : Int64) : Int64 := if v < 0 then 0 else if 99 < v then 99 else v
def stepT (head : Nat) (e : Env) (told : Int64) (c : CL) : Int64 := if c.1 = head ∧ clT c e = true then (match clV c e with
  | none => told
  | some v => clamp v) else told
def tellsT (head : Nat) (e : Env) (cls : List CL) (told : Int64) : Int64 := cls.foldl (stepT head e) told
section MTELLS
variable {m : Nat} {σ : Hp} {I : IM} {L : LM} {ord : Bool} {cd vl : Nat → Nat} {G T : Nat}
theorem clamp_lg {k64 : Int64 → Hp → Option (Int32 × Hp)} {s : Int64} {τ : Hp} : (if 0 ≤ lg_cmp s 0 then (if lg_cmp s 99 ≤ 0 then k64 s τ else k64 99 τ) else k64 0 τ) = k64 (clamp s) τ := by
  unfold clamp
  by_cases h1 : (0 : Int64) ≤ s
  · rw [if_pos ((lg_cmp_ge s 0).mpr h1), if_neg (Int64.not_lt.mpr h1)]
    by_cases h2 : s ≤ 99
    · rw [if_pos ((lg_cmp_le s 99).mpr h2), if_neg (Int64.not_lt.mpr h2)]
    · rw [if_neg (fun z => h2 ((lg_cmp_le s 99).mp z)), if_pos (Int64.not_le.mp h2)]
  · rw [if_neg (fun z => h1 ((lg_cmp_ge s 0).mp z)), if_pos (Int64.not_le.mp h1)]
theorem E_c203 (h : MSh m σ) {k64 k216 : Int64 → Hp → Option (Int32 × Hp)} {hd : Int32} {told : Int64} {g b : Nat} : X7_tells_c203 k64 k216 (some m) hd told (hw σ (stE m I g b) L) = k64 told (hw σ (stE m I (g + 1) b) L) := by
  simp (disch := first | omega | assumption) only [X7_tells_c203, stE_25, stE_set25, mgI, mgL, mpI, mpZ0, mpZ1, mpL, mcT, rZ0, rZ1, mR1, mA1, mS1, mR2, mA2, mS2, mR3, mA3, mS3, mR4, mA4, mS4, mR5, mA5, mS5, mR6, mA6, mS6, mR7, mA7, mS7, mR8, mA8, mS8, mR10, mA10, mS10, mR14, mA14, mS14, mR15, mA15, mS15, mR18, mA18, mS18, mR19, mA19, mS19, mR20, mA20, mS20, mR29, mA29, mS29, mR32, mA32, mS32, mR33, mA33, mS33, mR34, mA34, mS34, mR35, mA35, mS35, mR37, mA37, mS37, mR38, mA38, mS38, mR39, mA39, mS39, mR40, mA40, mS40, mR41, mA41, mS41, mR43, mA43, mS43, mR46, mA46, mS46, mR47, mA47, mS47, mR48, mA48, mS48, mR49, mA49, mS49, mR50, mA50, mS50, mR51, mA51, mS51, mR52, mA52, mS52, mR53, mA53, mS53, mR60, mA60, mS60, mR61, mA61, mS61, Option.bind_some, ofN_add, ofN_mul, ofN_sub, ofN_lt, ofN_le, ofN_inj, ofN_dec, ofN_lt_neg, neg_lt_ofN, ofN_le_neg, neg_le_ofN, ofN_eq_neg, neg_eq_ofN, ofN_irm, ofN_div, l0, l1, l2, l3, l4, l5, l6, l7, l8, l9, l10, l11, l12, l13, l14, l15, l16, l17, l18, l19, l20, l21, l22, l23, l24, l25, l26, l27, l28, l29, l30, l31, l32, l33, l34, l35, l36, l37, l38, l39, l40, l41, l42, l43, l44, l45, l46, l47, l48, l49, l50, l51, l52, l53, l54, l55, l56, l57, l58, l59, l60, l61, l62, l63, l64, l65, l66, l67, l68, l69, l70, l71, l72, l73, l74, l75, l76, l77, l78, l79, l80, l81, l82, l83, l84, l85, l86, l87, l88, l89, l90, l91, l92, l93, l94, l95, l96, l97, l98, l99, l100, l101, l102, l103, l104, l105, l106, l107, l108, l109, l110, l111, l112, l113, l114, l115, l116, l117, l118, l119, l120, l121, l122, l123, l124, l125, l126, l127, l128, l129, l130, l131, l196, l200, l245, l255, l368, l369, l370, l382, l383, l384, l385, l386, l387, l388, l394, l395, l400, l401, l617, l738, l800, l999, l1000, l1500, l1600, l2400, l3195, l5920, l5995, l11990, l99999, l1000000, l100000000, l1000000000, l2000000000, l2147483647]
theorem E_c149 (h : MSh m σ) {k64 k216 : Int64 → Hp → Option (Int32 × Hp)} {hd is x b1 : Nat} {told s : Int64} {g b : Nat} (h1 : hd < 1000) (h2 : is < 1000) (h3 : x ≤ 1) (h4 : b ≤ 1) (h5 : b1 ≤ 1) :
    X7_tells_c149 k64 k216 (some m) (ofN hd) told (ofN is) s (ofN b1) (ofN x) (hw σ (stE m I g b) L) = k64 (if is = hd ∧ (x = 1 ∧ b = 0) ∧ b1 = 0 then clamp s else told) (hw σ (stE m I (g + 1) b) L) := by
  have cl : ∀ τ : Hp, (if 0 ≤ lg_cmp s 0 then (if lg_cmp s 99 ≤ 0 then X7_tells_c202 k64 k216 (some m) (ofN hd) s τ else X7_tells_c202 k64 k216 (some m) (ofN hd) 99 τ) else X7_tells_c202 k64 k216 (some m) (ofN hd) 0 τ) = X7_tells_c202 k64 k216 (some m) (ofN hd) (clamp s) τ := by
    intro τ
    unfold clamp
    by_cases h1 : (0 : Int64) ≤ s
    · rw [if_pos ((lg_cmp_ge s 0).mpr h1), if_neg (Int64.not_lt.mpr h1)]
      by_cases h2 : s ≤ 99
      · rw [if_pos ((lg_cmp_le s 99).mpr h2), if_neg (Int64.not_lt.mpr h2)]
      · rw [if_neg (fun z => h2 ((lg_cmp_le s 99).mp z)), if_pos (Int64.not_le.mp h2)]
    · rw [if_neg (fun z => h1 ((lg_cmp_ge s 0).mp z)), if_pos (Int64.not_le.mp h1)]
  unfold X7_tells_c149
  rw [cl]
  have e202 : ∀ (v : Int64), X7_tells_c202 k64 k216 (some m) (ofN hd) v (hw σ (stE m I g b) L) = k64 v (hw σ (stE m I (g + 1) b) L) := fun v => E_c203 h
  simp (disch := first | omega | assumption) only [E_c203 h, e202, stE_27, mgI, mgL, mpI, mpZ0, mpZ1, mpL, mcT, rZ0, rZ1, mR1, mA1, mS1, mR2, mA2, mS2, mR3, mA3, mS3, mR4, mA4, mS4, mR5, mA5, mS5, mR6, mA6, mS6, mR7, mA7, mS7, mR8, mA8, mS8, mR10, mA10, mS10, mR14, mA14, mS14, mR15, mA15, mS15, mR18, mA18, mS18, mR19, mA19, mS19, mR20, mA20, mS20, mR29, mA29, mS29, mR32, mA32, mS32, mR33, mA33, mS33, mR34, mA34, mS34, mR35, mA35, mS35, mR37, mA37, mS37, mR38, mA38, mS38, mR39, mA39, mS39, mR40, mA40, mS40, mR41, mA41, mS41, mR43, mA43, mS43, mR46, mA46, mS46, mR47, mA47, mS47, mR48, mA48, mS48, mR49, mA49, mS49, mR50, mA50, mS50, mR51, mA51, mS51, mR52, mA52, mS52, mR53, mA53, mS53, mR60, mA60, mS60, mR61, mA61, mS61, Option.bind_some, ofN_add, ofN_mul, ofN_sub, ofN_lt, ofN_le, ofN_inj, ofN_dec, ofN_lt_neg, neg_lt_ofN, ofN_le_neg, neg_le_ofN, ofN_eq_neg, neg_eq_ofN, ofN_irm, ofN_div, l0, l1, l2, l3, l4, l5, l6, l7, l8, l9, l10, l11, l12, l13, l14, l15, l16, l17, l18, l19, l20, l21, l22, l23, l24, l25, l26, l27, l28, l29, l30, l31, l32, l33, l34, l35, l36, l37, l38, l39, l40, l41, l42, l43, l44, l45, l46, l47, l48, l49, l50, l51, l52, l53, l54, l55, l56, l57, l58, l59, l60, l61, l62, l63, l64, l65, l66, l67, l68, l69, l70, l71, l72, l73, l74, l75, l76, l77, l78, l79, l80, l81, l82, l83, l84, l85, l86, l87, l88, l89, l90, l91, l92, l93, l94, l95, l96, l97, l98, l99, l100, l101, l102, l103, l104, l105, l106, l107, l108, l109, l110, l111, l112, l113, l114, l115, l116, l117, l118, l119, l120, l121, l122, l123, l124, l125, l126, l127, l128, l129, l130, l131, l196, l200, l245, l255, l368, l369, l370, l382, l383, l384, l385, l386, l387, l388, l394, l395, l400, l401, l617, l738, l800, l999, l1000, l1500, l1600, l2400, l3195, l5920, l5995, l11990, l99999, l1000000, l100000000, l1000000000, l2000000000, l2147483647]
  by_cases a1 : is = hd
  · rw [if_pos a1]
    by_cases a2 : x = 0
    · rw [if_pos a2, if_neg (by omega)]
    · rw [if_neg a2]
      by_cases a3 : b = 0
      · rw [if_pos a3]
        by_cases a4 : b1 = 0
        · rw [if_pos a4, if_pos ⟨a1, ⟨by omega, a3⟩, a4⟩]
        · rw [if_neg a4, if_neg (by omega)]
      · rw [if_neg a3, if_neg (by omega)]
  · rw [if_neg a1, if_neg (by omega)]
theorem E_c115 (h : MSh m σ) (hE : EvC m I ord cd vl G T) (hT : Tk cd vl T) (he : EOK (envI m I ord)) {k64 k216 : Int64 → Hp → Option (Int32 × Hp)} {hd is i1 lv1 b1 : Nat} {told s : Int64} {q : Nat × Nat × Option DT} (h1 : hd < 1000) (h2 : is < 1000) (hi : i1 ≤ T) (hb : b1 ≤ 1) (hq : pIf ord cd vl i1 lv1 = .inr q) :
    ∃ b2, b2 ≤ 1 ∧ X7_tells_c115 k64 k216 (some m) (ofN hd) told (ofN is) s (hw σ (stE m I (G + i1) b1) L) = k64 (if is = hd ∧ optT q.2.2 (envI m I ord) = true ∧ b1 = 0 then clamp s else told) (hw σ (stE m I (G + q.1 + 1) b2) L) := by
  have ps := E_passes (L := L) h hT hE (i := i1) (b := 0) (c := 3) hi (by omega)
  simp (disch := first | omega | assumption) only [X7_tells_c115, stE_27, stE_set27, ps, mgI, mgL, mpI, mpZ0, mpZ1, mpL, mcT, rZ0, rZ1, mR1, mA1, mS1, mR2, mA2, mS2, mR3, mA3, mS3, mR4, mA4, mS4, mR5, mA5, mS5, mR6, mA6, mS6, mR7, mA7, mS7, mR8, mA8, mS8, mR10, mA10, mS10, mR14, mA14, mS14, mR15, mA15, mS15, mR18, mA18, mS18, mR19, mA19, mS19, mR20, mA20, mS20, mR29, mA29, mS29, mR32, mA32, mS32, mR33, mA33, mS33, mR34, mA34, mS34, mR35, mA35, mS35, mR37, mA37, mS37, mR38, mA38, mS38, mR39, mA39, mS39, mR40, mA40, mS40, mR41, mA41, mS41, mR43, mA43, mS43, mR46, mA46, mS46, mR47, mA47, mS47, mR48, mA48, mS48, mR49, mA49, mS49, mR50, mA50, mS50, mR51, mA51, mS51, mR52, mA52, mS52, mR53, mA53, mS53, mR60, mA60, mS60, mR61, mA61, mS61, Option.bind_some, ofN_add, ofN_mul, ofN_sub, ofN_lt, ofN_le, ofN_inj, ofN_dec, ofN_lt_neg, neg_lt_ofN, ofN_le_neg, neg_le_ofN, ofN_eq_neg, neg_eq_ofN, ofN_irm, ofN_div, l0, l1, l2, l3, l4, l5, l6, l7, l8, l9, l10, l11, l12, l13, l14, l15, l16, l17, l18, l19, l20, l21, l22, l23, l24, l25, l26, l27, l28, l29, l30, l31, l32, l33, l34, l35, l36, l37, l38, l39, l40, l41, l42, l43, l44, l45, l46, l47, l48, l49, l50, l51, l52, l53, l54, l55, l56, l57, l58, l59, l60, l61, l62, l63, l64, l65, l66, l67, l68, l69, l70, l71, l72, l73, l74, l75, l76, l77, l78, l79, l80, l81, l82, l83, l84, l85, l86, l87, l88, l89, l90, l91, l92, l93, l94, l95, l96, l97, l98, l99, l100, l101, l102, l103, l104, l105, l106, l107, l108, l109, l110, l111, l112, l113, l114, l115, l116, l117, l118, l119, l120, l121, l122, l123, l124, l125, l126, l127, l128, l129, l130, l131, l196, l200, l245, l255, l368, l369, l370, l382, l383, l384, l385, l386, l387, l388, l394, l395, l400, l401, l617, l738, l800, l999, l1000, l1500, l1600, l2400, l3195, l5920, l5995, l11990, l99999, l1000000, l100000000, l1000000000, l2000000000, l2147483647]
  unfold pIf at hq
  by_cases hc : cd i1 = 3
  · rw [if_pos hc] at hq ⊢
    obtain ⟨i2, lv2, t, e1, e2⟩ := pBd_inr hq
    cases e2
    have hi2 : i1 < T := hT.pos (by omega)
    obtain ⟨x, b', e3, hx, hb', s3⟩ := E_test (L := L) h hE hT he 8 12 (i1 + 1) lv1 _ (by omega) (by omega) e1 (by omega) 1 0 (by omega) (by omega)
    dsimp only at e3 s3 ⊢
    rw [if_pos ⟨rfl, rfl⟩] at s3
    refine ⟨b', hb', ?_⟩
    simp (disch := first | omega | assumption) only [e3, mgI, mgL, mpI, mpZ0, mpZ1, mpL, mcT, rZ0, rZ1, mR1, mA1, mS1, mR2, mA2, mS2, mR3, mA3, mS3, mR4, mA4, mS4, mR5, mA5, mS5, mR6, mA6, mS6, mR7, mA7, mS7, mR8, mA8, mS8, mR10, mA10, mS10, mR14, mA14, mS14, mR15, mA15, mS15, mR18, mA18, mS18, mR19, mA19, mS19, mR20, mA20, mS20, mR29, mA29, mS29, mR32, mA32, mS32, mR33, mA33, mS33, mR34, mA34, mS34, mR35, mA35, mS35, mR37, mA37, mS37, mR38, mA38, mS38, mR39, mA39, mS39, mR40, mA40, mS40, mR41, mA41, mS41, mR43, mA43, mS43, mR46, mA46, mS46, mR47, mA47, mS47, mR48, mA48, mS48, mR49, mA49, mS49, mR50, mA50, mS50, mR51, mA51, mS51, mR52, mA52, mS52, mR53, mA53, mS53, mR60, mA60, mS60, mR61, mA61, mS61, Option.bind_some, ofN_add, ofN_mul, ofN_sub, ofN_lt, ofN_le, ofN_inj, ofN_dec, ofN_lt_neg, neg_lt_ofN, ofN_le_neg, neg_le_ofN, ofN_eq_neg, neg_eq_ofN, ofN_irm, ofN_div, l0, l1, l2, l3, l4, l5, l6, l7, l8, l9, l10, l11, l12, l13, l14, l15, l16, l17, l18, l19, l20, l21, l22, l23, l24, l25, l26, l27, l28, l29, l30, l31, l32, l33, l34, l35, l36, l37, l38, l39, l40, l41, l42, l43, l44, l45, l46, l47, l48, l49, l50, l51, l52, l53, l54, l55, l56, l57, l58, l59, l60, l61, l62, l63, l64, l65, l66, l67, l68, l69, l70, l71, l72, l73, l74, l75, l76, l77, l78, l79, l80, l81, l82, l83, l84, l85, l86, l87, l88, l89, l90, l91, l92, l93, l94, l95, l96, l97, l98, l99, l100, l101, l102, l103, l104, l105, l106, l107, l108, l109, l110, l111, l112, l113, l114, l115, l116, l117, l118, l119, l120, l121, l122, l123, l124, l125, l126, l127, l128, l129, l130, l131, l196, l200, l245, l255, l368, l369, l370, l382, l383, l384, l385, l386, l387, l388, l394, l395, l400, l401, l617, l738, l800, l999, l1000, l1500, l1600, l2400, l3195, l5920, l5995, l11990, l99999, l1000000, l100000000, l1000000000, l2000000000, l2147483647]
    rw [if_neg (by omega)]
    have fin : (if is = hd ∧ (x = 1 ∧ b' = 0) ∧ b1 = 0 then clamp s else told) = if is = hd ∧ optT (some t) (envI m I ord) = true ∧ b1 = 0 then clamp s else told := by
      have : (x = 1 ∧ b' = 0) ↔ optT (some t) (envI m I ord) = true := by
        show _ ↔ (t (envI m I ord) == some true) = true
        rcases s3 with ⟨y1, y2⟩ | ⟨y1, y2⟩
        · rw [y1]
          by_cases x1 : x = 1
          · simp [x1, y2]
          · simp [x1]
        · rw [y1]
          constructor
          · intro z; omega
          · intro z; cases z
      simp only [this]
    by_cases x0 : x = 0
    · rw [if_pos x0, E_c149 h h1 h2 (show 0 ≤ 1 by omega) hb' hb, ← fin]
      subst x0
      rfl
    · rw [if_neg x0, E_c149 h h1 h2 (show 1 ≤ 1 by omega) hb' hb, ← fin]
      have x1 : x = 1 := by omega
      subst x1
      rfl
  · rw [if_neg hc] at hq ⊢
    cases hq
    refine ⟨0, by omega, ?_⟩
    simp (disch := first | omega | assumption) only [if_true, Option.bind_some, ofN_add, ofN_mul, ofN_sub, ofN_lt, ofN_le, ofN_inj, ofN_dec, ofN_lt_neg, neg_lt_ofN, ofN_le_neg, neg_le_ofN, ofN_eq_neg, neg_eq_ofN, ofN_irm, ofN_div, l0, l1, l2, l3, l4, l5, l6, l7, l8, l9, l10, l11, l12, l13, l14, l15, l16, l17, l18, l19, l20, l21, l22, l23, l24, l25, l26, l27, l28, l29, l30, l31, l32, l33, l34, l35, l36, l37, l38, l39, l40, l41, l42, l43, l44, l45, l46, l47, l48, l49, l50, l51, l52, l53, l54, l55, l56, l57, l58, l59, l60, l61, l62, l63, l64, l65, l66, l67, l68, l69, l70, l71, l72, l73, l74, l75, l76, l77, l78, l79, l80, l81, l82, l83, l84, l85, l86, l87, l88, l89, l90, l91, l92, l93, l94, l95, l96, l97, l98, l99, l100, l101, l102, l103, l104, l105, l106, l107, l108, l109, l110, l111, l112, l113, l114, l115, l116, l117, l118, l119, l120, l121, l122, l123, l124, l125, l126, l127, l128, l129, l130, l131, l196, l200, l245, l255, l368, l369, l370, l382, l383, l384, l385, l386, l387, l388, l394, l395, l400, l401, l617, l738, l800, l999, l1000, l1500, l1600, l2400, l3195, l5920, l5995, l11990, l99999, l1000000, l100000000, l1000000000, l2000000000, l2147483647]
    rw [E_c149 h h1 h2 (show 1 ≤ 1 by omega) (show 0 ≤ 1 by omega) hb]
    simp [optT]
theorem pCl_rd (hT : Tk cd vl T) {i lv : Nat} {q : Nat × Nat × CL} (hq : pCl ord cd vl i lv = .inr q) (hi : i ≤ T) : i < T ∧ q.1 ≤ T := by
  have hif : ∀ i lv q, pIf ord cd vl i lv = .inr q → i ≤ T → q.1 ≤ T := by
    intro i lv q hq hi
    unfold pIf at hq
    split at hq
    · next hc =>
      obtain ⟨i2, lv2, t, e1, e2⟩ := pBd_inr hq
      cases e2
      have := hT.pos (i := i) (by omega)
      exact (pTest_rd hT 8 (i + 1) lv _ e1 (by omega)).2.1
    · cases hq; exact hi
  unfold pCl at hq
  split at hq
  · next hc =>
    have h1 := hT.pos (i := i) (by omega)
    obtain ⟨i1, lv1, d, e1, e2⟩ := pBd_inr hq
    obtain ⟨i2, lv2, t, e3, e4⟩ := pBd_inr e2
    cases e4
    exact ⟨h1, hif _ _ _ e3 (pSum_rd hT 8 (i + 1) lv _ e1 (by omega)).2.1⟩
  · split at hq
    · next hc =>
      have h1 := hT.pos (i := i) (by omega)
      obtain ⟨i2, lv2, t, e3, e4⟩ := pBd_inr hq
      cases e4
      exact ⟨h1, hif _ _ _ e3 (by omega)⟩
    · cases hq
/-- one clause -/
theorem E_clause (h : MSh m σ) (hE : EvC m I ord cd vl G T) (hT : Tk cd vl T) (he : EOK (envI m I ord)) {k216 : Int64 → Hp → Option (Int32 × Hp)} {hd i lv f : Nat} {told : Int64} {q : Nat × Nat × CL} {J : IM} (h1 : hd < 1000) (hi : i ≤ T) (hq : pCl ord cd vl i lv = .inr q)
    (j25 : J m 25 = ofN (G + i)) (j26 : J m 26 = ofN (G + T)) (j2 : J (m + 2) = I (m + 2)) (j27 : up1 J m (ups (J m) 27 (ofN 0)) = stE m I (G + i) 0) :
    ∃ b2, b2 ≤ 1 ∧ X7_tells_c64 (some m) (ofN hd) k216 (f + 1) told (hw σ J L) = X7_tells_c64 (some m) (ofN hd) k216 f (stepT hd (envI m I ord) told q.2.2) (hw σ (stE m I (G + q.1 + 1) b2) L) := by
  have hT1 := hT.1
  have hG := hE.2.2.2
  obtain ⟨hiT, -⟩ := pCl_rd hT hq hi
  have ea : I (m + 2) (395 + (G + i)) = ofN (cd i) := (hE.2.2.1 i hiT).1
  have cA : X7_codeAt (some m) (ofN (G + i)) (hw σ J L) = some (ofN (cd i), hw σ J L) := by
    simp (disch := first | omega | assumption) only [X7_codeAt, j26, j2, ea, mgI, mgL, mpI, mpZ0, mpZ1, mpL, mcT, rZ0, rZ1, mR1, mA1, mS1, mR2, mA2, mS2, mR3, mA3, mS3, mR4, mA4, mS4, mR5, mA5, mS5, mR6, mA6, mS6, mR7, mA7, mS7, mR8, mA8, mS8, mR10, mA10, mS10, mR14, mA14, mS14, mR15, mA15, mS15, mR18, mA18, mS18, mR19, mA19, mS19, mR20, mA20, mS20, mR29, mA29, mS29, mR32, mA32, mS32, mR33, mA33, mS33, mR34, mA34, mS34, mR35, mA35, mS35, mR37, mA37, mS37, mR38, mA38, mS38, mR39, mA39, mS39, mR40, mA40, mS40, mR41, mA41, mS41, mR43, mA43, mS43, mR46, mA46, mS46, mR47, mA47, mS47, mR48, mA48, mS48, mR49, mA49, mS49, mR50, mA50, mS50, mR51, mA51, mS51, mR52, mA52, mS52, mR53, mA53, mS53, mR60, mA60, mS60, mR61, mA61, mS61, Option.bind_some, ofN_add, ofN_mul, ofN_sub, ofN_lt, ofN_le, ofN_inj, ofN_dec, ofN_lt_neg, neg_lt_ofN, ofN_le_neg, neg_le_ofN, ofN_eq_neg, neg_eq_ofN, ofN_irm, ofN_div, l0, l1, l2, l3, l4, l5, l6, l7, l8, l9, l10, l11, l12, l13, l14, l15, l16, l17, l18, l19, l20, l21, l22, l23, l24, l25, l26, l27, l28, l29, l30, l31, l32, l33, l34, l35, l36, l37, l38, l39, l40, l41, l42, l43, l44, l45, l46, l47, l48, l49, l50, l51, l52, l53, l54, l55, l56, l57, l58, l59, l60, l61, l62, l63, l64, l65, l66, l67, l68, l69, l70, l71, l72, l73, l74, l75, l76, l77, l78, l79, l80, l81, l82, l83, l84, l85, l86, l87, l88, l89, l90, l91, l92, l93, l94, l95, l96, l97, l98, l99, l100, l101, l102, l103, l104, l105, l106, l107, l108, l109, l110, l111, l112, l113, l114, l115, l116, l117, l118, l119, l120, l121, l122, l123, l124, l125, l126, l127, l128, l129, l130, l131, l196, l200, l245, l255, l368, l369, l370, l382, l383, l384, l385, l386, l387, l388, l394, l395, l400, l401, l617, l738, l800, l999, l1000, l1500, l1600, l2400, l3195, l5920, l5995, l11990, l99999, l1000000, l100000000, l1000000000, l2000000000, l2147483647]
    rw [if_neg (by omega)]
  have hc1 := hT.2.2.1 i
  have e0 : G + i + 1 = G + (i + 1) := by omega
  simp (disch := first | omega | assumption) only [X7_tells_c64, j25, j26, cA, j27, stE_25, stE_set25, e0, mgI, mgL, mpI, mpZ0, mpZ1, mpL, mcT, rZ0, rZ1, mR1, mA1, mS1, mR2, mA2, mS2, mR3, mA3, mS3, mR4, mA4, mS4, mR5, mA5, mS5, mR6, mA6, mS6, mR7, mA7, mS7, mR8, mA8, mS8, mR10, mA10, mS10, mR14, mA14, mS14, mR15, mA15, mS15, mR18, mA18, mS18, mR19, mA19, mS19, mR20, mA20, mS20, mR29, mA29, mS29, mR32, mA32, mS32, mR33, mA33, mS33, mR34, mA34, mS34, mR35, mA35, mS35, mR37, mA37, mS37, mR38, mA38, mS38, mR39, mA39, mS39, mR40, mA40, mS40, mR41, mA41, mS41, mR43, mA43, mS43, mR46, mA46, mS46, mR47, mA47, mS47, mR48, mA48, mS48, mR49, mA49, mS49, mR50, mA50, mS50, mR51, mA51, mS51, mR52, mA52, mS52, mR53, mA53, mS53, mR60, mA60, mS60, mR61, mA61, mS61, Option.bind_some, ofN_add, ofN_mul, ofN_sub, ofN_lt, ofN_le, ofN_inj, ofN_dec, ofN_lt_neg, neg_lt_ofN, ofN_le_neg, neg_le_ofN, ofN_eq_neg, neg_eq_ofN, ofN_irm, ofN_div, l0, l1, l2, l3, l4, l5, l6, l7, l8, l9, l10, l11, l12, l13, l14, l15, l16, l17, l18, l19, l20, l21, l22, l23, l24, l25, l26, l27, l28, l29, l30, l31, l32, l33, l34, l35, l36, l37, l38, l39, l40, l41, l42, l43, l44, l45, l46, l47, l48, l49, l50, l51, l52, l53, l54, l55, l56, l57, l58, l59, l60, l61, l62, l63, l64, l65, l66, l67, l68, l69, l70, l71, l72, l73, l74, l75, l76, l77, l78, l79, l80, l81, l82, l83, l84, l85, l86, l87, l88, l89, l90, l91, l92, l93, l94, l95, l96, l97, l98, l99, l100, l101, l102, l103, l104, l105, l106, l107, l108, l109, l110, l111, l112, l113, l114, l115, l116, l117, l118, l119, l120, l121, l122, l123, l124, l125, l126, l127, l128, l129, l130, l131, l196, l200, l245, l255, l368, l369, l370, l382, l383, l384, l385, l386, l387, l388, l394, l395, l400, l401, l617, l738, l800, l999, l1000, l1500, l1600, l2400, l3195, l5920, l5995, l11990, l99999, l1000000, l100000000, l1000000000, l2000000000, l2147483647]
  rw [if_neg (by omega)]
  unfold pCl at hq
  split at hq
  · next hc =>
    obtain ⟨i1, lv1, d, e1, e2⟩ := pBd_inr hq
    obtain ⟨i2, lv2, t, e3, e4⟩ := pBd_inr e2
    cases e4
    obtain ⟨-, a2, -⟩ := pSum_rd hT 8 (i + 1) lv _ e1 (by omega)
    dsimp only at a2
    obtain ⟨v, b1, f1, s1⟩ := E_sum (L := L) h hE hT he 8 12 (i + 1) lv _ (by omega) e1 (by omega) 1 0 (by omega) (by omega)
    dsimp only at f1 s1
    obtain ⟨hb1, s1⟩ := s1
    rw [if_pos ⟨rfl, rfl⟩] at s1
    obtain ⟨b2, hb2, e5⟩ := E_c115 (L := L) h hE hT he (k64 := X7_tells_c64 (some m) (ofN hd) k216 f) (k216 := k216) (hd := hd) (is := cd i) (b1 := b1) (told := told) (s := v) h1 hc1 a2 hb1 e3
    refine ⟨b2, hb2, ?_⟩
    rw [if_neg (by omega)]
    simp (disch := first | omega | assumption) only [f1, mgI, mgL, mpI, mpZ0, mpZ1, mpL, mcT, rZ0, rZ1, mR1, mA1, mS1, mR2, mA2, mS2, mR3, mA3, mS3, mR4, mA4, mS4, mR5, mA5, mS5, mR6, mA6, mS6, mR7, mA7, mS7, mR8, mA8, mS8, mR10, mA10, mS10, mR14, mA14, mS14, mR15, mA15, mS15, mR18, mA18, mS18, mR19, mA19, mS19, mR20, mA20, mS20, mR29, mA29, mS29, mR32, mA32, mS32, mR33, mA33, mS33, mR34, mA34, mS34, mR35, mA35, mS35, mR37, mA37, mS37, mR38, mA38, mS38, mR39, mA39, mS39, mR40, mA40, mS40, mR41, mA41, mS41, mR43, mA43, mS43, mR46, mA46, mS46, mR47, mA47, mS47, mR48, mA48, mS48, mR49, mA49, mS49, mR50, mA50, mS50, mR51, mA51, mS51, mR52, mA52, mS52, mR53, mA53, mS53, mR60, mA60, mS60, mR61, mA61, mS61, Option.bind_some, ofN_add, ofN_mul, ofN_sub, ofN_lt, ofN_le, ofN_inj, ofN_dec, ofN_lt_neg, neg_lt_ofN, ofN_le_neg, neg_le_ofN, ofN_eq_neg, neg_eq_ofN, ofN_irm, ofN_div, l0, l1, l2, l3, l4, l5, l6, l7, l8, l9, l10, l11, l12, l13, l14, l15, l16, l17, l18, l19, l20, l21, l22, l23, l24, l25, l26, l27, l28, l29, l30, l31, l32, l33, l34, l35, l36, l37, l38, l39, l40, l41, l42, l43, l44, l45, l46, l47, l48, l49, l50, l51, l52, l53, l54, l55, l56, l57, l58, l59, l60, l61, l62, l63, l64, l65, l66, l67, l68, l69, l70, l71, l72, l73, l74, l75, l76, l77, l78, l79, l80, l81, l82, l83, l84, l85, l86, l87, l88, l89, l90, l91, l92, l93, l94, l95, l96, l97, l98, l99, l100, l101, l102, l103, l104, l105, l106, l107, l108, l109, l110, l111, l112, l113, l114, l115, l116, l117, l118, l119, l120, l121, l122, l123, l124, l125, l126, l127, l128, l129, l130, l131, l196, l200, l245, l255, l368, l369, l370, l382, l383, l384, l385, l386, l387, l388, l394, l395, l400, l401, l617, l738, l800, l999, l1000, l1500, l1600, l2400, l3195, l5920, l5995, l11990, l99999, l1000000, l100000000, l1000000000, l2000000000, l2147483647]
    rw [e5]
    dsimp only
    congr 1
    unfold stepT clT clV
    dsimp only
    rw [hc]
    rcases s1 with ⟨y1, y2⟩ | ⟨y1, y2⟩
    · rw [y1]
      by_cases hz : 1 = hd ∧ optT t (envI m I ord) = true
      · rw [if_pos ⟨hz.1, hz.2, y2⟩, if_pos hz]
      · rw [if_neg (fun z => hz ⟨z.1, z.2.1⟩), if_neg hz]
    · rw [y1, if_neg (by omega)]
      split <;> rfl
  · split at hq
    · next hc1' hc =>
      obtain ⟨i2, lv2, t, e3, e4⟩ := pBd_inr hq
      cases e4
      obtain ⟨b2, hb2, e5⟩ := E_c115 (L := L) h hE hT he (k64 := X7_tells_c64 (some m) (ofN hd) k216 f) (k216 := k216) (hd := hd) (is := cd i) (b1 := 0) (told := told) (s := 1) h1 hc1 (show i + 1 ≤ T by omega) (by omega) e3
      refine ⟨b2, hb2, ?_⟩
      rw [if_pos hc, e5]
      dsimp only
      congr 1
      unfold stepT clT clV
      dsimp only
      rw [hc]
      by_cases hz : 2 = hd ∧ optT t (envI m I ord) = true
      · rw [if_pos ⟨hz.1, hz.2, rfl⟩, if_pos hz]
      · rw [if_neg (fun z => hz ⟨z.1, z.2.1⟩), if_neg hz]
    · cases hq
theorem E_tellsF (h : MSh m σ) (hE : EvC m I ord cd vl G T) (hT : Tk cd vl T) (he : EOK (envI m I ord)) {k216 : Int64 → Hp → Option (Int32 × Hp)} {hd : Nat} (h1 : hd < 1000) : ∀ (r fuel i lv : Nat) (cls : List CL) (told : Int64) (J : IM), pAll cd T (pCl ord cd vl) r i lv = .inr cls → i ≤ T → r + 2 < fuel →
    J m 25 = ofN (G + i) → J m 26 = ofN (G + T) → J (m + 2) = I (m + 2) → up1 J m (ups (J m) 27 (ofN 0)) = stE m I (G + i) 0 →
    ∃ g b, b ≤ 1 ∧ X7_tells_c64 (some m) (ofN hd) k216 fuel told (hw σ J L) = k216 (tellsT hd (envI m I ord) cls told) (hw σ (stE m I g b) L) := by
  intro r
  have hT1 := hT.1
  have hG := hE.2.2.2
  induction r with
  | zero =>
    intro fuel i lv cls told J hq hi hf j25 j26 j2 j27
    obtain ⟨f, rfl⟩ : ∃ f, fuel = f + 1 + 1 := ⟨fuel - 2, by omega⟩
    unfold pAll at hq
    split at hq
    · cases hq
    next q hq1 =>
    obtain ⟨-, hqT⟩ := pCl_rd hT hq1 hi
    obtain ⟨b2, hb2, e5⟩ := E_clause (L := L) h hE hT he (k216 := k216) (f := f + 1) (told := told) h1 hi hq1 j25 j26 j2 j27
    split at hq
    · cases hq
    · split at hq
      · cases hq
      · cases hq
        refine ⟨G + q.1 + 1, b2, hb2, ?_⟩
        rw [e5]
        simp (disch := first | omega | assumption) only [X7_tells_c64, stE_25, stE_m, hE.1, mgI, mgL, mpI, mpZ0, mpZ1, mpL, mcT, rZ0, rZ1, mR1, mA1, mS1, mR2, mA2, mS2, mR3, mA3, mS3, mR4, mA4, mS4, mR5, mA5, mS5, mR6, mA6, mS6, mR7, mA7, mS7, mR8, mA8, mS8, mR10, mA10, mS10, mR14, mA14, mS14, mR15, mA15, mS15, mR18, mA18, mS18, mR19, mA19, mS19, mR20, mA20, mS20, mR29, mA29, mS29, mR32, mA32, mS32, mR33, mA33, mS33, mR34, mA34, mS34, mR35, mA35, mS35, mR37, mA37, mS37, mR38, mA38, mS38, mR39, mA39, mS39, mR40, mA40, mS40, mR41, mA41, mS41, mR43, mA43, mS43, mR46, mA46, mS46, mR47, mA47, mS47, mR48, mA48, mS48, mR49, mA49, mS49, mR50, mA50, mS50, mR51, mA51, mS51, mR52, mA52, mS52, mR53, mA53, mS53, mR60, mA60, mS60, mR61, mA61, mS61, Option.bind_some, ofN_add, ofN_mul, ofN_sub, ofN_lt, ofN_le, ofN_inj, ofN_dec, ofN_lt_neg, neg_lt_ofN, ofN_le_neg, neg_le_ofN, ofN_eq_neg, neg_eq_ofN, ofN_irm, ofN_div, l0, l1, l2, l3, l4, l5, l6, l7, l8, l9, l10, l11, l12, l13, l14, l15, l16, l17, l18, l19, l20, l21, l22, l23, l24, l25, l26, l27, l28, l29, l30, l31, l32, l33, l34, l35, l36, l37, l38, l39, l40, l41, l42, l43, l44, l45, l46, l47, l48, l49, l50, l51, l52, l53, l54, l55, l56, l57, l58, l59, l60, l61, l62, l63, l64, l65, l66, l67, l68, l69, l70, l71, l72, l73, l74, l75, l76, l77, l78, l79, l80, l81, l82, l83, l84, l85, l86, l87, l88, l89, l90, l91, l92, l93, l94, l95, l96, l97, l98, l99, l100, l101, l102, l103, l104, l105, l106, l107, l108, l109, l110, l111, l112, l113, l114, l115, l116, l117, l118, l119, l120, l121, l122, l123, l124, l125, l126, l127, l128, l129, l130, l131, l196, l200, l245, l255, l368, l369, l370, l382, l383, l384, l385, l386, l387, l388, l394, l395, l400, l401, l617, l738, l800, l999, l1000, l1500, l1600, l2400, l3195, l5920, l5995, l11990, l99999, l1000000, l100000000, l1000000000, l2000000000, l2147483647]
        rw [if_pos (by omega)]
        rfl
  | succ r ih =>
    intro fuel i lv cls told J hq hi hf j25 j26 j2 j27
    obtain ⟨f, rfl⟩ : ∃ f, fuel = f + 1 + 1 := ⟨fuel - 2, by omega⟩
    unfold pAll at hq
    split at hq
    · cases hq
    next q hq1 =>
    obtain ⟨-, hqT⟩ := pCl_rd hT hq1 hi
    obtain ⟨b2, hb2, e5⟩ := E_clause (L := L) h hE hT he (k216 := k216) (f := f + 1) (told := told) h1 hi hq1 j25 j26 j2 j27
    rw [e5]
    split at hq
    · next hc =>
      have hq2 := hT.pos (i := q.1) (by omega)
      dsimp only at hq
      split at hq
      · cases hq
      next l hl =>
      cases hq
      obtain ⟨g, b, hb, e6⟩ := ih (f + 1) (q.1 + 1) q.2.1 l (stepT hd (envI m I ord) told q.2.2) (stE m I (G + q.1 + 1) b2) hl (by omega) (by omega) (by rw [stE_25]; rfl) (by rw [stE_m (by omega) (by omega)]; exact hE.1) (stE_a (by omega)) stE_set27
      exact ⟨g, b, hb, e6⟩
    · split at hq
      · cases hq
      · cases hq
        refine ⟨G + q.1 + 1, b2, hb2, ?_⟩
        simp (disch := first | omega | assumption) only [X7_tells_c64, stE_25, stE_m, hE.1, mgI, mgL, mpI, mpZ0, mpZ1, mpL, mcT, rZ0, rZ1, mR1, mA1, mS1, mR2, mA2, mS2, mR3, mA3, mS3, mR4, mA4, mS4, mR5, mA5, mS5, mR6, mA6, mS6, mR7, mA7, mS7, mR8, mA8, mS8, mR10, mA10, mS10, mR14, mA14, mS14, mR15, mA15, mS15, mR18, mA18, mS18, mR19, mA19, mS19, mR20, mA20, mS20, mR29, mA29, mS29, mR32, mA32, mS32, mR33, mA33, mS33, mR34, mA34, mS34, mR35, mA35, mS35, mR37, mA37, mS37, mR38, mA38, mS38, mR39, mA39, mS39, mR40, mA40, mS40, mR41, mA41, mS41, mR43, mA43, mS43, mR46, mA46, mS46, mR47, mA47, mS47, mR48, mA48, mS48, mR49, mA49, mS49, mR50, mA50, mS50, mR51, mA51, mS51, mR52, mA52, mS52, mR53, mA53, mS53, mR60, mA60, mS60, mR61, mA61, mS61, Option.bind_some, ofN_add, ofN_mul, ofN_sub, ofN_lt, ofN_le, ofN_inj, ofN_dec, ofN_lt_neg, neg_lt_ofN, ofN_le_neg, neg_le_ofN, ofN_eq_neg, neg_eq_ofN, ofN_irm, ofN_div, l0, l1, l2, l3, l4, l5, l6, l7, l8, l9, l10, l11, l12, l13, l14, l15, l16, l17, l18, l19, l20, l21, l22, l23, l24, l25, l26, l27, l28, l29, l30, l31, l32, l33, l34, l35, l36, l37, l38, l39, l40, l41, l42, l43, l44, l45, l46, l47, l48, l49, l50, l51, l52, l53, l54, l55, l56, l57, l58, l59, l60, l61, l62, l63, l64, l65, l66, l67, l68, l69, l70, l71, l72, l73, l74, l75, l76, l77, l78, l79, l80, l81, l82, l83, l84, l85, l86, l87, l88, l89, l90, l91, l92, l93, l94, l95, l96, l97, l98, l99, l100, l101, l102, l103, l104, l105, l106, l107, l108, l109, l110, l111, l112, l113, l114, l115, l116, l117, l118, l119, l120, l121, l122, l123, l124, l125, l126, l127, l128, l129, l130, l131, l196, l200, l245, l255, l368, l369, l370, l382, l383, l384, l385, l386, l387, l388, l394, l395, l400, l401, l617, l738, l800, l999, l1000, l1500, l1600, l2400, l3195, l5920, l5995, l11990, l99999, l1000000, l100000000, l1000000000, l2000000000, l2147483647]
        rw [if_pos (by omega)]
        rfl
end MTELLS
