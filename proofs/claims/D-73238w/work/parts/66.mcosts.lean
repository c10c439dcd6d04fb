set_option maxRecDepth 100000
/-! THE MODEL's COSTS: what a law in force tells of a tenant and a key -/
/-- what laws are asked -/
def lawEnv (K : Nat → Int32) (t : Nat) (key : Int32) : Env := fun c => (if c = 7 then ofN t else if c = 8 then key else if c = 9 then ofN (cntB (vw K t) key) else if c = 10 then ofN (plcB (vw K t) 0 key) else if c = 11 then K 383 else if c = 12 then K 368 else 0).toInt64
/-- the text of a law as it lies in kept, and what it says -/
def LawM (K : Nat → Int32) (j : Nat) (cls : List CL) : Prop := ∃ cd vl T r, Tk cd vl T ∧ K (388 + j) = ofN T ∧ (∀ i, i < T → K (395 + (400 * j + i)) = ofN (cd i) ∧ K (3195 + (400 * j + i)) = ofN (vl i)) ∧ r < 1000 ∧ pAll cd T (pCl false cd vl) r 0 0 = .inr cls
/-- all laws told; that in force -/
def lawIn (K : Nat → Int32) (D : Nat → List CL) : List CL := if K 387 = -ofN 1 then [] else D (nat32 (K 387))
def LawsM (K : Nat → Int32) (D : Nat → List CL) : Prop := ∃ n, K 386 = ofN n ∧ n ≤ 6 ∧ (∀ j, j < n → LawM K j (D j)) ∧ (K 387 = -ofN 1 ∨ ∃ j, j < n ∧ K 387 = ofN j)
section MCOSTS
variable {m : Nat} {σ : Hp} {I : IM} {L : LM}
theorem M_cntF (h : MSh m σ) {t n : Nat} {key : Int32} {kk : Int32 → Hp → Option Hp} (ht : t < 4) (hn : vw (I (m + 2)) t 59 = ofN n) (hb : n ≤ 32) : ∀ (r fuel k x : Nat), n + 1 = k + r → x ≤ k → r < fuel →
    X7_setsAsked_c5 (some m) (ofN t) key kk fuel (ofN x) (ofN k) (hw σ I L) = kk (ofN (cntF (vw (I (m + 2)) t) key r k x)) (hw σ I L) := by
  have hn' : I (m + 2) (92 * t + 59) = ofN n := (vw_at (by omega)).symm.trans hn
  intro r
  induction r with
  | zero =>
    intro fuel k x hk hx hf
    obtain ⟨f, rfl⟩ : ∃ f, fuel = f + 1 := ⟨fuel - 1, by omega⟩
    simp (disch := first | omega | assumption) only [X7_setsAsked_c5, X7_at, cntF, hn', mgI, mgL, mpI, mpZ0, mpZ1, mpL, mcT, rZ0, rZ1, mR1, mA1, mS1, mR2, mA2, mS2, mR3, mA3, mS3, mR4, mA4, mS4, mR5, mA5, mS5, mR6, mA6, mS6, mR7, mA7, mS7, mR8, mA8, mS8, mR10, mA10, mS10, mR14, mA14, mS14, mR15, mA15, mS15, mR18, mA18, mS18, mR19, mA19, mS19, mR20, mA20, mS20, mR29, mA29, mS29, mR32, mA32, mS32, mR33, mA33, mS33, mR34, mA34, mS34, mR35, mA35, mS35, mR37, mA37, mS37, mR38, mA38, mS38, mR39, mA39, mS39, mR40, mA40, mS40, mR41, mA41, mS41, mR43, mA43, mS43, mR46, mA46, mS46, mR47, mA47, mS47, mR48, mA48, mS48, mR49, mA49, mS49, mR50, mA50, mS50, mR51, mA51, mS51, mR52, mA52, mS52, mR53, mA53, mS53, mR60, mA60, mS60, mR61, mA61, mS61, Option.bind_some, ofN_add, ofN_mul, ofN_sub, ofN_lt, ofN_le, ofN_inj, ofN_dec, ofN_lt_neg, neg_lt_ofN, ofN_le_neg, neg_le_ofN, ofN_eq_neg, neg_eq_ofN, ofN_irm, ofN_div, l0, l1, l2, l3, l4, l5, l6, l7, l8, l9, l10, l11, l12, l13, l14, l15, l16, l17, l18, l19, l20, l21, l22, l23, l24, l25, l26, l27, l28, l29, l30, l31, l32, l33, l34, l35, l36, l37, l38, l39, l40, l41, l42, l43, l44, l45, l46, l47, l48, l49, l50, l51, l52, l53, l54, l55, l56, l57, l58, l59, l60, l61, l62, l63, l64, l65, l66, l67, l68, l69, l70, l71, l72, l73, l74, l75, l76, l77, l78, l79, l80, l81, l82, l83, l84, l85, l86, l87, l88, l89, l90, l91, l92, l93, l94, l95, l96, l97, l98, l99, l100, l101, l102, l103, l104, l105, l106, l107, l108, l109, l110, l111, l112, l113, l114, l115, l116, l117, l118, l119, l120, l121, l122, l123, l124, l125, l126, l127, l128, l129, l130, l131, l196, l200, l245, l255, l368, l369, l370, l382, l383, l384, l385, l386, l387, l388, l394, l395, l400, l401, l617, l738, l800, l999, l1000, l1500, l1600, l2400, l3195, l5920, l5995, l11990, l99999, l1000000, l100000000, l1000000000, l2000000000, l2147483647]
    rw [if_pos (by omega)]
  | succ r ih =>
    intro fuel k x hk hx hf
    obtain ⟨f, rfl⟩ : ∃ f, fuel = f + 1 := ⟨fuel - 1, by omega⟩
    have e1 : vw (I (m + 2)) t (59 + k) = I (m + 2) (92 * t + (59 + k)) := vw_at (by omega)
    simp (disch := first | omega | assumption) only [X7_setsAsked_c5, X7_at, cntF, hn', mgI, mgL, mpI, mpZ0, mpZ1, mpL, mcT, rZ0, rZ1, mR1, mA1, mS1, mR2, mA2, mS2, mR3, mA3, mS3, mR4, mA4, mS4, mR5, mA5, mS5, mR6, mA6, mS6, mR7, mA7, mS7, mR8, mA8, mS8, mR10, mA10, mS10, mR14, mA14, mS14, mR15, mA15, mS15, mR18, mA18, mS18, mR19, mA19, mS19, mR20, mA20, mS20, mR29, mA29, mS29, mR32, mA32, mS32, mR33, mA33, mS33, mR34, mA34, mS34, mR35, mA35, mS35, mR37, mA37, mS37, mR38, mA38, mS38, mR39, mA39, mS39, mR40, mA40, mS40, mR41, mA41, mS41, mR43, mA43, mS43, mR46, mA46, mS46, mR47, mA47, mS47, mR48, mA48, mS48, mR49, mA49, mS49, mR50, mA50, mS50, mR51, mA51, mS51, mR52, mA52, mS52, mR53, mA53, mS53, mR60, mA60, mS60, mR61, mA61, mS61, Option.bind_some, ofN_add, ofN_mul, ofN_sub, ofN_lt, ofN_le, ofN_inj, ofN_dec, ofN_lt_neg, neg_lt_ofN, ofN_le_neg, neg_le_ofN, ofN_eq_neg, neg_eq_ofN, ofN_irm, ofN_div, l0, l1, l2, l3, l4, l5, l6, l7, l8, l9, l10, l11, l12, l13, l14, l15, l16, l17, l18, l19, l20, l21, l22, l23, l24, l25, l26, l27, l28, l29, l30, l31, l32, l33, l34, l35, l36, l37, l38, l39, l40, l41, l42, l43, l44, l45, l46, l47, l48, l49, l50, l51, l52, l53, l54, l55, l56, l57, l58, l59, l60, l61, l62, l63, l64, l65, l66, l67, l68, l69, l70, l71, l72, l73, l74, l75, l76, l77, l78, l79, l80, l81, l82, l83, l84, l85, l86, l87, l88, l89, l90, l91, l92, l93, l94, l95, l96, l97, l98, l99, l100, l101, l102, l103, l104, l105, l106, l107, l108, l109, l110, l111, l112, l113, l114, l115, l116, l117, l118, l119, l120, l121, l122, l123, l124, l125, l126, l127, l128, l129, l130, l131, l196, l200, l245, l255, l368, l369, l370, l382, l383, l384, l385, l386, l387, l388, l394, l395, l400, l401, l617, l738, l800, l999, l1000, l1500, l1600, l2400, l3195, l5920, l5995, l11990, l99999, l1000000, l100000000, l1000000000, l2000000000, l2147483647]
    rw [if_neg (by omega), e1]
    by_cases hq : I (m + 2) (92 * t + (59 + k)) = key
    · rw [if_pos hq, if_pos hq]
      exact ih f (k + 1) (x + 1) (by omega) (by omega) (by omega)
    · rw [if_neg hq, if_neg hq, Nat.add_zero]
      exact ih f (k + 1) x (by omega) (by omega) (by omega)
def askF (A K : Nat → Int32) (t : Nat) (key : Int32) : Nat → Int32 := ups (ups (ups (ups (ups (ups A 0 (ofN t)) 1 key) 2 (ofN (cntB (vw K t) key))) 3 (ofN (plcB (vw K t) 0 key))) 4 (K 383)) 5 (K 368)
theorem M_setsAsked (h : MSh m σ) {t n ns nr l : Nat} {key : Int32} (ht : t < 4) (hB : BN (vw (I (m + 2)) t) n ns nr l) :
    X7_setsAsked (some m) (ofN t) key (hw σ I L) = some (hw σ (up1 I (m + 15) (askF (I (m + 15)) (I (m + 2)) t key)) L) := by
  obtain ⟨⟨n0, n1⟩, -, ⟨r0, r1⟩, -⟩ := hB
  have hp : ∀ A, X7_placeIn (some m) (ofN t) (ofN 0) key (hw σ (up1 I (m + 15) A) L) = some (ofN (plcB (vw (I (m + 2)) t) 0 key), hw σ (up1 I (m + 15) A) L) := by
    intro A
    have e : up1 I (m + 15) A (m + 2) = I (m + 2) := up1_ne (by omega)
    have := M_placeIn (I := up1 I (m + 15) A) (L := L) h (key := key) ht (row := 0) (n := n) (by rw [e]; exact n0) (by omega)
    rw [e] at this
    exact this
  simp (disch := first | omega | assumption) only [X7_setsAsked, Option.bind_some, ofN_add, ofN_mul, ofN_sub, ofN_lt, ofN_le, ofN_inj, ofN_dec, ofN_lt_neg, neg_lt_ofN, ofN_le_neg, neg_le_ofN, ofN_eq_neg, neg_eq_ofN, ofN_irm, ofN_div, l0, l1, l2, l3, l4, l5, l6, l7, l8, l9, l10, l11, l12, l13, l14, l15, l16, l17, l18, l19, l20, l21, l22, l23, l24, l25, l26, l27, l28, l29, l30, l31, l32, l33, l34, l35, l36, l37, l38, l39, l40, l41, l42, l43, l44, l45, l46, l47, l48, l49, l50, l51, l52, l53, l54, l55, l56, l57, l58, l59, l60, l61, l62, l63, l64, l65, l66, l67, l68, l69, l70, l71, l72, l73, l74, l75, l76, l77, l78, l79, l80, l81, l82, l83, l84, l85, l86, l87, l88, l89, l90, l91, l92, l93, l94, l95, l96, l97, l98, l99, l100, l101, l102, l103, l104, l105, l106, l107, l108, l109, l110, l111, l112, l113, l114, l115, l116, l117, l118, l119, l120, l121, l122, l123, l124, l125, l126, l127, l128, l129, l130, l131, l196, l200, l245, l255, l368, l369, l370, l382, l383, l384, l385, l386, l387, l388, l394, l395, l400, l401, l617, l738, l800, l999, l1000, l1500, l1600, l2400, l3195, l5920, l5995, l11990, l99999, l1000000, l100000000, l1000000000, l2000000000, l2147483647]
  rw [M_cntF h ht r0 r1 nr FUEL 1 0 (by omega) (by omega) (by unfold FUEL; omega)]
  simp (disch := first | omega | assumption) only [hp, up1_eq, up1_ne, up1_up1, mgI, mgL, mpI, mpZ0, mpZ1, mpL, mcT, rZ0, rZ1, mR1, mA1, mS1, mR2, mA2, mS2, mR3, mA3, mS3, mR4, mA4, mS4, mR5, mA5, mS5, mR6, mA6, mS6, mR7, mA7, mS7, mR8, mA8, mS8, mR10, mA10, mS10, mR14, mA14, mS14, mR15, mA15, mS15, mR18, mA18, mS18, mR19, mA19, mS19, mR20, mA20, mS20, mR29, mA29, mS29, mR32, mA32, mS32, mR33, mA33, mS33, mR34, mA34, mS34, mR35, mA35, mS35, mR37, mA37, mS37, mR38, mA38, mS38, mR39, mA39, mS39, mR40, mA40, mS40, mR41, mA41, mS41, mR43, mA43, mS43, mR46, mA46, mS46, mR47, mA47, mS47, mR48, mA48, mS48, mR49, mA49, mS49, mR50, mA50, mS50, mR51, mA51, mS51, mR52, mA52, mS52, mR53, mA53, mS53, mR60, mA60, mS60, mR61, mA61, mS61, Option.bind_some, ofN_add, ofN_mul, ofN_sub, ofN_lt, ofN_le, ofN_inj, ofN_dec, ofN_lt_neg, neg_lt_ofN, ofN_le_neg, neg_le_ofN, ofN_eq_neg, neg_eq_ofN, ofN_irm, ofN_div, l0, l1, l2, l3, l4, l5, l6, l7, l8, l9, l10, l11, l12, l13, l14, l15, l16, l17, l18, l19, l20, l21, l22, l23, l24, l25, l26, l27, l28, l29, l30, l31, l32, l33, l34, l35, l36, l37, l38, l39, l40, l41, l42, l43, l44, l45, l46, l47, l48, l49, l50, l51, l52, l53, l54, l55, l56, l57, l58, l59, l60, l61, l62, l63, l64, l65, l66, l67, l68, l69, l70, l71, l72, l73, l74, l75, l76, l77, l78, l79, l80, l81, l82, l83, l84, l85, l86, l87, l88, l89, l90, l91, l92, l93, l94, l95, l96, l97, l98, l99, l100, l101, l102, l103, l104, l105, l106, l107, l108, l109, l110, l111, l112, l113, l114, l115, l116, l117, l118, l119, l120, l121, l122, l123, l124, l125, l126, l127, l128, l129, l130, l131, l196, l200, l245, l255, l368, l369, l370, l382, l383, l384, l385, l386, l387, l388, l394, l395, l400, l401, l617, l738, l800, l999, l1000, l1500, l1600, l2400, l3195, l5920, l5995, l11990, l99999, l1000000, l100000000, l1000000000, l2000000000, l2147483647]
  unfold askF cntB
  rw [r0, nat32_ofN (by omega)]
theorem ask_env {A K : Nat → Int32} {t : Nat} {key dn lt : Int32} : envM false K (askF A K t key) dn lt = lawEnv K t key := by
  funext c
  unfold envM lawEnv askF ups
  rw [if_neg (by decide)]
  grind
theorem M_tells (h : MSh m σ) {t : Nat} {key : Int32} {hd w : Nat} {D : Nat → List CL} (h1 : hd < 1000) (hA : I (m + 15) = askF (I (m + 15)) (I (m + 2)) t key) (hD : LawsM (I (m + 2)) D) (he : EOK (lawEnv (I (m + 2)) t key)) :
    ∃ I', X7_tells (some m) (ofN hd) (ofN w) (hw σ I L) = some ((tellsT hd (lawEnv (I (m + 2)) t key) (lawIn (I (m + 2)) D) (ofN w).toInt64).toInt32, hw σ I' L) ∧ Scr m I I' := by
  obtain ⟨n, n0, n6, hl, hf⟩ := hD
  unfold lawIn
  rcases hf with hf | ⟨j, hj, hf⟩
  · refine ⟨I, ?_, Scr.rfl⟩
    simp (disch := first | omega | assumption) only [X7_tells, hf, if_true, mgI, mgL, mpI, mpZ0, mpZ1, mpL, mcT, rZ0, rZ1, mR1, mA1, mS1, mR2, mA2, mS2, mR3, mA3, mS3, mR4, mA4, mS4, mR5, mA5, mS5, mR6, mA6, mS6, mR7, mA7, mS7, mR8, mA8, mS8, mR10, mA10, mS10, mR14, mA14, mS14, mR15, mA15, mS15, mR18, mA18, mS18, mR19, mA19, mS19, mR20, mA20, mS20, mR29, mA29, mS29, mR32, mA32, mS32, mR33, mA33, mS33, mR34, mA34, mS34, mR35, mA35, mS35, mR37, mA37, mS37, mR38, mA38, mS38, mR39, mA39, mS39, mR40, mA40, mS40, mR41, mA41, mS41, mR43, mA43, mS43, mR46, mA46, mS46, mR47, mA47, mS47, mR48, mA48, mS48, mR49, mA49, mS49, mR50, mA50, mS50, mR51, mA51, mS51, mR52, mA52, mS52, mR53, mA53, mS53, mR60, mA60, mS60, mR61, mA61, mS61, Option.bind_some, ofN_add, ofN_mul, ofN_sub, ofN_lt, ofN_le, ofN_inj, ofN_dec, ofN_lt_neg, neg_lt_ofN, ofN_le_neg, neg_le_ofN, ofN_eq_neg, neg_eq_ofN, ofN_irm, ofN_div, l0, l1, l2, l3, l4, l5, l6, l7, l8, l9, l10, l11, l12, l13, l14, l15, l16, l17, l18, l19, l20, l21, l22, l23, l24, l25, l26, l27, l28, l29, l30, l31, l32, l33, l34, l35, l36, l37, l38, l39, l40, l41, l42, l43, l44, l45, l46, l47, l48, l49, l50, l51, l52, l53, l54, l55, l56, l57, l58, l59, l60, l61, l62, l63, l64, l65, l66, l67, l68, l69, l70, l71, l72, l73, l74, l75, l76, l77, l78, l79, l80, l81, l82, l83, l84, l85, l86, l87, l88, l89, l90, l91, l92, l93, l94, l95, l96, l97, l98, l99, l100, l101, l102, l103, l104, l105, l106, l107, l108, l109, l110, l111, l112, l113, l114, l115, l116, l117, l118, l119, l120, l121, l122, l123, l124, l125, l126, l127, l128, l129, l130, l131, l196, l200, l245, l255, l368, l369, l370, l382, l383, l384, l385, l386, l387, l388, l394, l395, l400, l401, l617, l738, l800, l999, l1000, l1500, l1600, l2400, l3195, l5920, l5995, l11990, l99999, l1000000, l100000000, l1000000000, l2000000000, l2147483647]
    unfold tellsT
    rw [List.foldl_nil, Int32.toInt32_toInt64]
  · obtain ⟨cd, vl, T, r, hT, hs, ht, hr, hp⟩ := hl j hj
    have hT1 := hT.1
    rw [hf, if_neg (by rw [ofN_eq_neg (by omega) (by omega) (by omega)]; exact id), nat32_ofN (by omega)]
    have hne : ¬ (ofN j = (-1 : Int32)) := by
      intro z
      have : ofN j = -ofN 1 := z
      rw [ofN_eq_neg (by omega) (by omega) (by omega)] at this
      exact this
    generalize hI1 : up1 I m (ups (ups (ups (I m) 28 (ofN 0)) 25 (ofN (400 * j))) 26 (ofN (400 * j + T))) = I1
    have a2 : I1 (m + 2) = I (m + 2) := by rw [← hI1]; exact up1_ne (by omega)
    have a15 : I1 (m + 15) = I (m + 15) := by rw [← hI1]; exact up1_ne (by omega)
    have hE : EvC m I1 false cd vl (400 * j) T := by
      refine ⟨?_, ?_, ?_, by omega⟩
      · rw [← hI1, up1_eq, ups_eq]
      · rw [← hI1, up1_eq, ups_ne (by omega), ups_ne (by omega), ups_eq]; rfl
      · rw [a2]; exact ht
    have eenv : envI m I1 false = lawEnv (I (m + 2)) t key := by
      unfold envI
      rw [a2, a15, hA, ask_env]
    obtain ⟨g, b, hb, e5⟩ := E_tellsF (L := L) h hE hT (by rw [eenv]; exact he) (k216 := fun x14 τ15 => some (x14.toInt32, τ15)) (hd := hd) h1 r FUEL 0 0 (D j) (ofN w).toInt64 I1 hp (by omega) (by unfold FUEL; omega) (by rw [← hI1, up1_eq, ups_ne (by omega), ups_eq]; rfl) (by rw [← hI1, up1_eq, ups_eq]) rfl (by
        unfold stE
        congr 1
        funext k
        have : I1 m 25 = ofN (400 * j) := by rw [← hI1, up1_eq, ups_ne (by omega), ups_eq]
        unfold ups
        grind)
    refine ⟨stE m I1 g b, ?_, fun a h1 h2 => ?_, fun k hk => ?_⟩
    · rw [eenv] at e5
      rw [← e5, ← hI1]
      simp (disch := first | omega | assumption) only [X7_tells, hf, hs, up1_eq, up1_ne, up1_up1, ups_eq, ups_ne, mgI, mgL, mpI, mpZ0, mpZ1, mpL, mcT, rZ0, rZ1, mR1, mA1, mS1, mR2, mA2, mS2, mR3, mA3, mS3, mR4, mA4, mS4, mR5, mA5, mS5, mR6, mA6, mS6, mR7, mA7, mS7, mR8, mA8, mS8, mR10, mA10, mS10, mR14, mA14, mS14, mR15, mA15, mS15, mR18, mA18, mS18, mR19, mA19, mS19, mR20, mA20, mS20, mR29, mA29, mS29, mR32, mA32, mS32, mR33, mA33, mS33, mR34, mA34, mS34, mR35, mA35, mS35, mR37, mA37, mS37, mR38, mA38, mS38, mR39, mA39, mS39, mR40, mA40, mS40, mR41, mA41, mS41, mR43, mA43, mS43, mR46, mA46, mS46, mR47, mA47, mS47, mR48, mA48, mS48, mR49, mA49, mS49, mR50, mA50, mS50, mR51, mA51, mS51, mR52, mA52, mS52, mR53, mA53, mS53, mR60, mA60, mS60, mR61, mA61, mS61, Option.bind_some, ofN_add, ofN_mul, ofN_sub, ofN_lt, ofN_le, ofN_inj, ofN_dec, ofN_lt_neg, neg_lt_ofN, ofN_le_neg, neg_le_ofN, ofN_eq_neg, neg_eq_ofN, ofN_irm, ofN_div, l0, l1, l2, l3, l4, l5, l6, l7, l8, l9, l10, l11, l12, l13, l14, l15, l16, l17, l18, l19, l20, l21, l22, l23, l24, l25, l26, l27, l28, l29, l30, l31, l32, l33, l34, l35, l36, l37, l38, l39, l40, l41, l42, l43, l44, l45, l46, l47, l48, l49, l50, l51, l52, l53, l54, l55, l56, l57, l58, l59, l60, l61, l62, l63, l64, l65, l66, l67, l68, l69, l70, l71, l72, l73, l74, l75, l76, l77, l78, l79, l80, l81, l82, l83, l84, l85, l86, l87, l88, l89, l90, l91, l92, l93, l94, l95, l96, l97, l98, l99, l100, l101, l102, l103, l104, l105, l106, l107, l108, l109, l110, l111, l112, l113, l114, l115, l116, l117, l118, l119, l120, l121, l122, l123, l124, l125, l126, l127, l128, l129, l130, l131, l196, l200, l245, l255, l368, l369, l370, l382, l383, l384, l385, l386, l387, l388, l394, l395, l400, l401, l617, l738, l800, l999, l1000, l1500, l1600, l2400, l3195, l5920, l5995, l11990, l99999, l1000000, l100000000, l1000000000, l2000000000, l2147483647]
      rw [if_false]
    · unfold stE
      rw [up1_ne h1, ← hI1, up1_ne h1]
    · rw [stE_m (by omega) (by omega), ← hI1, up1_eq, ups_ne (by omega), ups_ne (by omega), ups_ne (by omega)]
/-- what the law in force tells of costs; whether it bars -/
def costK (K : Nat → Int32) (D : Nat → List CL) (t : Nat) (key : Int32) : Int32 := (tellsT 1 (lawEnv K t key) (lawIn K D) (ofN 1).toInt64).toInt32
def barK (K : Nat → Int32) (D : Nat → List CL) (t : Nat) (key : Int32) : Bool := decide ((tellsT 2 (lawEnv K t key) (lawIn K D) (ofN 0).toInt64).toInt32 = ofN 1)
theorem ask_ask {A K : Nat → Int32} {t : Nat} {key : Int32} : askF (askF A K t key) K t key = askF A K t key := by
  funext k
  unfold askF ups
  grind
theorem M_costsFor (h : MSh m σ) {t n ns nr l : Nat} {key : Int32} {D : Nat → List CL} (ht : t < 4) (hB : BN (vw (I (m + 2)) t) n ns nr l) (hD : LawsM (I (m + 2)) D) (he : EOK (lawEnv (I (m + 2)) t key)) :
    ∃ I', X7_costsFor (some m) (ofN t) key (hw σ I L) = some (costK (I (m + 2)) D t key, hw σ I' L) ∧ Scr m I I' := by
  have e2 : up1 I (m + 15) (askF (I (m + 15)) (I (m + 2)) t key) (m + 2) = I (m + 2) := up1_ne (by omega)
  obtain ⟨I', e5, S⟩ := M_tells (I := up1 I (m + 15) (askF (I (m + 15)) (I (m + 2)) t key)) (L := L) h (t := t) (key := key) (hd := 1) (w := 1) (D := D) (by omega) (by rw [up1_eq, e2, ask_ask]) (by rw [e2]; exact hD) (by rw [e2]; exact he)
  rw [e2] at e5
  refine ⟨I', ?_, fun a h1 h2 => ?_, fun k hk => ?_⟩
  · simp (disch := first | omega | assumption) only [X7_costsFor, M_setsAsked h ht hB, e5, mgI, mgL, mpI, mpZ0, mpZ1, mpL, mcT, rZ0, rZ1, mR1, mA1, mS1, mR2, mA2, mS2, mR3, mA3, mS3, mR4, mA4, mS4, mR5, mA5, mS5, mR6, mA6, mS6, mR7, mA7, mS7, mR8, mA8, mS8, mR10, mA10, mS10, mR14, mA14, mS14, mR15, mA15, mS15, mR18, mA18, mS18, mR19, mA19, mS19, mR20, mA20, mS20, mR29, mA29, mS29, mR32, mA32, mS32, mR33, mA33, mS33, mR34, mA34, mS34, mR35, mA35, mS35, mR37, mA37, mS37, mR38, mA38, mS38, mR39, mA39, mS39, mR40, mA40, mS40, mR41, mA41, mS41, mR43, mA43, mS43, mR46, mA46, mS46, mR47, mA47, mS47, mR48, mA48, mS48, mR49, mA49, mS49, mR50, mA50, mS50, mR51, mA51, mS51, mR52, mA52, mS52, mR53, mA53, mS53, mR60, mA60, mS60, mR61, mA61, mS61, Option.bind_some, ofN_add, ofN_mul, ofN_sub, ofN_lt, ofN_le, ofN_inj, ofN_dec, ofN_lt_neg, neg_lt_ofN, ofN_le_neg, neg_le_ofN, ofN_eq_neg, neg_eq_ofN, ofN_irm, ofN_div, l0, l1, l2, l3, l4, l5, l6, l7, l8, l9, l10, l11, l12, l13, l14, l15, l16, l17, l18, l19, l20, l21, l22, l23, l24, l25, l26, l27, l28, l29, l30, l31, l32, l33, l34, l35, l36, l37, l38, l39, l40, l41, l42, l43, l44, l45, l46, l47, l48, l49, l50, l51, l52, l53, l54, l55, l56, l57, l58, l59, l60, l61, l62, l63, l64, l65, l66, l67, l68, l69, l70, l71, l72, l73, l74, l75, l76, l77, l78, l79, l80, l81, l82, l83, l84, l85, l86, l87, l88, l89, l90, l91, l92, l93, l94, l95, l96, l97, l98, l99, l100, l101, l102, l103, l104, l105, l106, l107, l108, l109, l110, l111, l112, l113, l114, l115, l116, l117, l118, l119, l120, l121, l122, l123, l124, l125, l126, l127, l128, l129, l130, l131, l196, l200, l245, l255, l368, l369, l370, l382, l383, l384, l385, l386, l387, l388, l394, l395, l400, l401, l617, l738, l800, l999, l1000, l1500, l1600, l2400, l3195, l5920, l5995, l11990, l99999, l1000000, l100000000, l1000000000, l2000000000, l2147483647]
    rfl
  · rw [S.1 a h1 h2, up1_ne h2]
  · rw [S.2 k hk, up1_ne (by omega)]
theorem M_isBarred (h : MSh m σ) {t n ns nr l : Nat} {key : Int32} {D : Nat → List CL} (ht : t < 4) (hB : BN (vw (I (m + 2)) t) n ns nr l) (hD : LawsM (I (m + 2)) D) (he : EOK (lawEnv (I (m + 2)) t key)) :
    ∃ I', X7_isBarred (some m) (ofN t) key (hw σ I L) = some ((if barK (I (m + 2)) D t key = true then ofN 1 else ofN 0), hw σ I' L) ∧ Scr m I I' := by
  have e2 : up1 I (m + 15) (askF (I (m + 15)) (I (m + 2)) t key) (m + 2) = I (m + 2) := up1_ne (by omega)
  obtain ⟨I', e5, S⟩ := M_tells (I := up1 I (m + 15) (askF (I (m + 15)) (I (m + 2)) t key)) (L := L) h (t := t) (key := key) (hd := 2) (w := 0) (D := D) (by omega) (by rw [up1_eq, e2, ask_ask]) (by rw [e2]; exact hD) (by rw [e2]; exact he)
  rw [e2] at e5
  refine ⟨I', ?_, fun a h1 h2 => ?_, fun k hk => ?_⟩
  · simp (disch := first | omega | assumption) only [X7_isBarred, M_setsAsked h ht hB, e5, mgI, mgL, mpI, mpZ0, mpZ1, mpL, mcT, rZ0, rZ1, mR1, mA1, mS1, mR2, mA2, mS2, mR3, mA3, mS3, mR4, mA4, mS4, mR5, mA5, mS5, mR6, mA6, mS6, mR7, mA7, mS7, mR8, mA8, mS8, mR10, mA10, mS10, mR14, mA14, mS14, mR15, mA15, mS15, mR18, mA18, mS18, mR19, mA19, mS19, mR20, mA20, mS20, mR29, mA29, mS29, mR32, mA32, mS32, mR33, mA33, mS33, mR34, mA34, mS34, mR35, mA35, mS35, mR37, mA37, mS37, mR38, mA38, mS38, mR39, mA39, mS39, mR40, mA40, mS40, mR41, mA41, mS41, mR43, mA43, mS43, mR46, mA46, mS46, mR47, mA47, mS47, mR48, mA48, mS48, mR49, mA49, mS49, mR50, mA50, mS50, mR51, mA51, mS51, mR52, mA52, mS52, mR53, mA53, mS53, mR60, mA60, mS60, mR61, mA61, mS61, Option.bind_some, ofN_add, ofN_mul, ofN_sub, ofN_lt, ofN_le, ofN_inj, ofN_dec, ofN_lt_neg, neg_lt_ofN, ofN_le_neg, neg_le_ofN, ofN_eq_neg, neg_eq_ofN, ofN_irm, ofN_div, l0, l1, l2, l3, l4, l5, l6, l7, l8, l9, l10, l11, l12, l13, l14, l15, l16, l17, l18, l19, l20, l21, l22, l23, l24, l25, l26, l27, l28, l29, l30, l31, l32, l33, l34, l35, l36, l37, l38, l39, l40, l41, l42, l43, l44, l45, l46, l47, l48, l49, l50, l51, l52, l53, l54, l55, l56, l57, l58, l59, l60, l61, l62, l63, l64, l65, l66, l67, l68, l69, l70, l71, l72, l73, l74, l75, l76, l77, l78, l79, l80, l81, l82, l83, l84, l85, l86, l87, l88, l89, l90, l91, l92, l93, l94, l95, l96, l97, l98, l99, l100, l101, l102, l103, l104, l105, l106, l107, l108, l109, l110, l111, l112, l113, l114, l115, l116, l117, l118, l119, l120, l121, l122, l123, l124, l125, l126, l127, l128, l129, l130, l131, l196, l200, l245, l255, l368, l369, l370, l382, l383, l384, l385, l386, l387, l388, l394, l395, l400, l401, l617, l738, l800, l999, l1000, l1500, l1600, l2400, l3195, l5920, l5995, l11990, l99999, l1000000, l100000000, l1000000000, l2000000000, l2147483647]
    unfold barK
    by_cases hz : (tellsT 2 (lawEnv (I (m + 2)) t key) (lawIn (I (m + 2)) D) (ofN 0).toInt64).toInt32 = ofN 1
    · exact (if_pos hz).trans (by rw [if_pos (decide_eq_true hz)])
    · exact (if_neg hz).trans (by rw [if_neg (by rw [decide_eq_true_eq]; exact hz)])
  · rw [S.1 a h1 h2, up1_ne h2]
  · rw [S.2 k hk, up1_ne (by omega)]
/-- a read, all in all -/
theorem M_read (h : MSh m σ) {t n ns nr l : Nat} {key : Int32} {D : Nat → List CL} (ht : t < 4) (hB : BN (vw (I (m + 2)) t) n ns nr l) (hD : LawsM (I (m + 2)) D) (he : EOK (lawEnv (I (m + 2)) t key)) :
    ∃ I', Scr m I I' ∧ X7_readsKey (some m) (ofN t) key (hw σ I L) = some ((if barK (I (m + 2)) D t key = true then ofN 0 else ofN (plcB (vw (I (m + 2)) t) 0 key)), hw σ (up1 I' (m + 2) (sv (I (m + 2)) t (readB (vw (I (m + 2)) t) key (costK (I (m + 2)) D t key) (I (m + 2) 384) (barK (I (m + 2)) D t key)))) (up1 L (m + 3) (svL (L (m + 3)) t (readQ (vwL (L (m + 3)) t) (vw (I (m + 2)) t) key (costK (I (m + 2)) D t key) (I (m + 2) 384) (barK (I (m + 2)) D t key))))) := by
  refine M_readsKey h ht hB (fun I' S => ?_) (fun I' S => ?_)
  · have e : I' (m + 2) = I (m + 2) := S.at (by omega) (by omega)
    have := M_costsFor (I := I') (L := L) h (key := key) ht (by rw [e]; exact hB) (by rw [e]; exact hD) (by rw [e]; exact he)
    rw [e] at this
    exact this
  · have e : I' (m + 2) = I (m + 2) := S.at (by omega) (by omega)
    have := M_isBarred (I := I') (L := L) h (key := key) ht (by rw [e]; exact hB) (by rw [e]; exact hD) (by rw [e]; exact he)
    rw [e] at this
    exact this
end MCOSTS
