set_option maxRecDepth 100000
/-! BOOKS copied; STEPS -/
section XSTEPS
variable {σ : Hp} {I : IM} {L : LM} {p p' : Nat} {K : Nat → Int32} {P : Nat → Int64}
theorem X_asF {kk : Hp → Option (Option Nat × Hp)} (h : BsSh p σ) (h' : BsSh p' σ) (hK : KN K) (hd : p + 26 ≤ p' ∨ p' + 26 ≤ p) : ∀ (r fuel t : Nat) (I : IM) (L : LM), 4 = t + r → r < fuel → BsRel I L p' K P → (∀ u, u < t → BkRel I L (p + 2 + 6 * u) (vw K u) (vwL P u)) →
    ∃ I' L', X2_as_c2 (some p) (some p') kk fuel (ofN t) (hw σ I L) = kk (hw σ I' L') ∧ FrI (p + 2) (p + 26) I I' ∧ FrL (p + 2) (p + 26) L L' ∧ ∀ u, u < 4 → BkRel I' L' (p + 2 + 6 * u) (vw K u) (vwL P u) := by
  intro r
  induction r with
  | zero =>
    intro fuel t I L hk hf hr hu
    obtain ⟨f, rfl⟩ : ∃ f, fuel = f + 1 := ⟨fuel - 1, by omega⟩
    refine ⟨I, L, ?_, FrI.rfl, FrL.rfl, fun u h4 => hu u (by omega)⟩
    simp (disch := first | omega | assumption) only [X2_as_c2, Option.bind_some, ofN_add, ofN_mul, ofN_sub, ofN_lt, ofN_le, ofN_inj, ofN_dec, ofN_lt_neg, neg_lt_ofN, ofN_le_neg, neg_le_ofN, ofN_eq_neg, neg_eq_ofN, ofN_irm, ofN_div, l0, l1, l2, l3, l4, l5, l6, l7, l8, l9, l10, l11, l12, l13, l14, l15, l16, l17, l18, l19, l20, l21, l22, l23, l24, l25, l26, l27, l28, l29, l30, l31, l32, l33, l34, l35, l36, l37, l38, l39, l40, l41, l42, l43, l44, l45, l46, l47, l48, l49, l50, l51, l52, l53, l54, l55, l56, l57, l58, l59, l60, l61, l62, l63, l64, l65, l66, l67, l68, l69, l70, l71, l72, l73, l74, l75, l76, l77, l78, l79, l80, l81, l82, l83, l84, l85, l86, l87, l88, l89, l90, l91, l92, l93, l94, l95, l96, l97, l98, l99, l100, l101, l102, l103, l104, l105, l106, l107, l108, l109, l110, l111, l112, l113, l114, l115, l116, l117, l118, l119, l120, l121, l122, l123, l124, l125, l126, l127, l128, l129, l130, l131, l196, l200, l245, l255, l368, l369, l370, l382, l383, l384, l385, l386, l387, l388, l394, l395, l400, l401, l617, l738, l800, l999, l1000, l1500, l1600, l2400, l3195, l5920, l5995, l11990, l99999, l1000000, l100000000, l1000000000, l2000000000, l2147483647]
    rw [if_pos (by omega)]
  | succ r ih =>
    intro fuel t I L hk hf hr hu
    obtain ⟨f, rfl⟩ : ∃ f, fuel = f + 1 := ⟨fuel - 1, by omega⟩
    obtain ⟨n, ns, nr, l, hN⟩ := hK t (by omega)
    have b1 := (h.2.2.2.2.2 t (by omega)).2
    have b2 := (h'.2.2.2.2.2 t (by omega)).2
    obtain ⟨I1, L1, e1, f1, g1, r1⟩ := X_as b1 b2 (hr.2 t (by omega)) hN.1 (by omega)
    obtain ⟨I2, L2, e2, f2, g2, r2⟩ := ih f (t + 1) I1 L1 (by omega) (by omega) (hr.fr f1 g1 (by omega)) (fun u hu2 => by
      by_cases e : u = t
      · subst e; exact r1
      · exact (hu u (by omega)).fr f1 g1 (by omega))
    refine ⟨I2, L2, ?_, (f1.wide (by omega) (by omega)).trans f2, (g1.wide (by omega) (by omega)).trans g2, r2⟩
    simp (disch := first | omega | assumption) only [X2_as_c2, sgR0 h, sgR0 h', saR h, saR h', bcT b1, e1, Option.bind_some, ofN_add, ofN_mul, ofN_sub, ofN_lt, ofN_le, ofN_inj, ofN_dec, ofN_lt_neg, neg_lt_ofN, ofN_le_neg, neg_le_ofN, ofN_eq_neg, neg_eq_ofN, ofN_irm, ofN_div, l0, l1, l2, l3, l4, l5, l6, l7, l8, l9, l10, l11, l12, l13, l14, l15, l16, l17, l18, l19, l20, l21, l22, l23, l24, l25, l26, l27, l28, l29, l30, l31, l32, l33, l34, l35, l36, l37, l38, l39, l40, l41, l42, l43, l44, l45, l46, l47, l48, l49, l50, l51, l52, l53, l54, l55, l56, l57, l58, l59, l60, l61, l62, l63, l64, l65, l66, l67, l68, l69, l70, l71, l72, l73, l74, l75, l76, l77, l78, l79, l80, l81, l82, l83, l84, l85, l86, l87, l88, l89, l90, l91, l92, l93, l94, l95, l96, l97, l98, l99, l100, l101, l102, l103, l104, l105, l106, l107, l108, l109, l110, l111, l112, l113, l114, l115, l116, l117, l118, l119, l120, l121, l122, l123, l124, l125, l126, l127, l128, l129, l130, l131, l196, l200, l245, l255, l368, l369, l370, l382, l383, l384, l385, l386, l387, l388, l394, l395, l400, l401, l617, l738, l800, l999, l1000, l1500, l1600, l2400, l3195, l5920, l5995, l11990, l99999, l1000000, l100000000, l1000000000, l2000000000, l2147483647]
    rw [if_neg (by omega)]
    exact e2
theorem X_asB (h : BsSh p σ) (h' : BsSh p' σ) (hK : KN K) (hd : p + 26 ≤ p' ∨ p' + 26 ≤ p) (hr : BsRel I L p' K P) :
    ∃ I' L', X2_as (some p) (some p') (hw σ I L) = some (some p, hw σ I' L') ∧ FrI p (p + 26) I I' ∧ FrL p (p + 26) L L' ∧ BsRel I' L' p K P ∧ I' p 2 = I p' 2 := by
  obtain ⟨I1, L1, e1, f1, g1, r1⟩ := X_asF (kk := fun τ1 => (gI τ1 (some p') [2] 1).bind fun v2 => (pI τ1 (some p) [2] 1 v2).bind fun σ3 => (gI σ3 (some p') [2] 2).bind fun v4 => (pI σ3 (some p) [2] 2 v4).bind fun σ5 => some (some p, σ5)) h h' hK hd 4 FUEL 0 I L (by omega) (by unfold FUEL; omega) hr (fun u hu => by omega)
  have q1 : I1 p' = I p' := f1 p' (by omega)
  have q2 : I1 p = I p := f1 p (by omega)
  refine ⟨_, _, e1.trans (by simp (disch := first | omega | assumption) only [sgI h', spI h, up1_eq, up1_ne, ups_eq, ups_ne, up1_up1, Option.bind_some, ofN_add, ofN_mul, ofN_sub, ofN_lt, ofN_le, ofN_inj, ofN_dec, ofN_lt_neg, neg_lt_ofN, ofN_le_neg, neg_le_ofN, ofN_eq_neg, neg_eq_ofN, ofN_irm, ofN_div, l0, l1, l2, l3, l4, l5, l6, l7, l8, l9, l10, l11, l12, l13, l14, l15, l16, l17, l18, l19, l20, l21, l22, l23, l24, l25, l26, l27, l28, l29, l30, l31, l32, l33, l34, l35, l36, l37, l38, l39, l40, l41, l42, l43, l44, l45, l46, l47, l48, l49, l50, l51, l52, l53, l54, l55, l56, l57, l58, l59, l60, l61, l62, l63, l64, l65, l66, l67, l68, l69, l70, l71, l72, l73, l74, l75, l76, l77, l78, l79, l80, l81, l82, l83, l84, l85, l86, l87, l88, l89, l90, l91, l92, l93, l94, l95, l96, l97, l98, l99, l100, l101, l102, l103, l104, l105, l106, l107, l108, l109, l110, l111, l112, l113, l114, l115, l116, l117, l118, l119, l120, l121, l122, l123, l124, l125, l126, l127, l128, l129, l130, l131, l196, l200, l245, l255, l368, l369, l370, l382, l383, l384, l385, l386, l387, l388, l394, l395, l400, l401, l617, l738, l800, l999, l1000, l1500, l1600, l2400, l3195, l5920, l5995, l11990, l99999, l1000000, l100000000, l1000000000, l2000000000, l2147483647]; rfl), fun a ha => ?_, g1.wide (by omega) (by omega), ⟨?_, fun t ht => ?_⟩, ?_⟩
  · rw [up1_ne (by omega)]; exact f1 a (by omega)
  · rw [up1_eq, ups_ne (by omega), ups_eq, q1]; exact hr.1
  · refine (r1 t ht).fr (lo := p) (hi := p + 1) (fun a ha => ?_) FrL.rfl (by omega)
    rw [up1_ne (by omega)]
  · rw [up1_eq, ups_eq, q1]
/-! Steps at s: its row of Books at u 0 .. u 15 -/
def StSh (s : Nat) (u : Nat → Nat) (σ : Hp) : Prop := hlo σ ≤ s ∧ htg σ s = 4 ∧ hR σ s 0 = some (s + 1) ∧ htg σ (s + 1) = 108 ∧ hln σ (s + 1) = 16 ∧ (∀ k, k < 16 → hR σ (s + 1) k = some (u k) ∧ BsSh (u k) σ ∧ s + 2 ≤ u k ∧ u k + 26 ≤ s + 418) ∧ ∀ i j, i < 16 → j < 16 → i ≠ j → u i + 26 ≤ u j ∨ u j + 26 ≤ u i
/-- the first n of them hold what lies in a row of the Model's: wide rows of 370 ints, of 100 parts -/
def rwK (K : Nat → Int32) (k : Nat) : Nat → Int32 := fun j => K (370 * k + j)
def rwP (P : Nat → Int64) (k : Nat) : Nat → Int64 := fun j => P (100 * k + j)
def StRel (I : IM) (L : LM) (s : Nat) (u : Nat → Nat) (n : Nat) (K : Nat → Int32) (P : Nat → Int64) : Prop := I s 1 = ofN n ∧ n ≤ 16 ∧ ∀ k, k < n → BsRel I L (u k) (rwK K k) (rwP P k) ∧ I (u k) 2 = K (370 * k + 369)
variable {s : Nat} {u : Nat → Nat}
theorem tgR0 (h : StSh s u σ) : gR (hw σ I L) (some s) [4] 0 = some (some (s + 1)) := (gR_hw (by rw [h.2.1]; exact List.mem_singleton.mpr rfl)).trans (congrArg some h.2.2.1)
theorem tgI {k : Nat} (h : StSh s u σ) : gI (hw σ I L) (some s) [4] k = some (I s k) := gI_hw (by rw [h.2.1]; exact List.mem_singleton.mpr rfl)
theorem tpI {k : Nat} {v : Int32} (h : StSh s u σ) : pI (hw σ I L) (some s) [4] k v = some (hw σ (up1 I s (ups (I s) k v)) L) := pI_hw (by rw [h.2.1]; exact List.mem_singleton.mpr rfl) h.1
theorem tcT (h : StSh s u σ) : cT (hw σ I L) (some s) 4 = some s := cT_hw h.2.1
theorem taR {k : Nat} (h : StSh s u σ) (hk : k < 16) : aR 8 (hw σ I L) (some (s + 1)) (ofN k) = some (some (u k)) := (aR_hw h.2.2.2.1 (by rw [h.2.2.2.2.1]; exact hk) (by omega)).trans (congrArg some (h.2.2.2.2.2.1 k hk).1)
/-- Books kept in Steps: the last one behind what was there -/
theorem X_app49 (h : StSh s u σ) (hq : BsSh p σ) (hK : KN K) (hd : p + 26 ≤ s ∨ s + 418 ≤ p) {n : Nat} {z : Int32} (hn : I s 1 = ofN n) (hn2 : n < 16) (hr : BsRel I L p K P) :
    ∃ I' L', X4_append_c49 (some s) (some p) z (hw σ I L) = some (hw σ I' L') ∧ (∀ a, (a < u n ∨ u n + 26 ≤ a) → a ≠ s → I' a = I a) ∧ FrL (u n) (u n + 26) L L' ∧ BsRel I' L' (u n) K P ∧ I' (u n) 2 = z ∧ I' s 1 = ofN (n + 1) := by
  obtain ⟨-, un1, un2, un3⟩ := h.2.2.2.2.2.1 n hn2
  obtain ⟨I1, L1, e1, f1, g1, r1, -⟩ := X_asB un1 hq hK (by omega) hr
  have q1 : I1 s = I s := f1 s (by omega)
  refine ⟨_, _, by simp (disch := first | omega | assumption) only [X4_append_c49, tgR0 h, tgI h, hn, taR h, scT un1, e1, spI un1, tpI h, up1_eq, up1_ne, q1, Option.bind_some, ofN_add, ofN_mul, ofN_sub, ofN_lt, ofN_le, ofN_inj, ofN_dec, ofN_lt_neg, neg_lt_ofN, ofN_le_neg, neg_le_ofN, ofN_eq_neg, neg_eq_ofN, ofN_irm, ofN_div, l0, l1, l2, l3, l4, l5, l6, l7, l8, l9, l10, l11, l12, l13, l14, l15, l16, l17, l18, l19, l20, l21, l22, l23, l24, l25, l26, l27, l28, l29, l30, l31, l32, l33, l34, l35, l36, l37, l38, l39, l40, l41, l42, l43, l44, l45, l46, l47, l48, l49, l50, l51, l52, l53, l54, l55, l56, l57, l58, l59, l60, l61, l62, l63, l64, l65, l66, l67, l68, l69, l70, l71, l72, l73, l74, l75, l76, l77, l78, l79, l80, l81, l82, l83, l84, l85, l86, l87, l88, l89, l90, l91, l92, l93, l94, l95, l96, l97, l98, l99, l100, l101, l102, l103, l104, l105, l106, l107, l108, l109, l110, l111, l112, l113, l114, l115, l116, l117, l118, l119, l120, l121, l122, l123, l124, l125, l126, l127, l128, l129, l130, l131, l196, l200, l245, l255, l368, l369, l370, l382, l383, l384, l385, l386, l387, l388, l394, l395, l400, l401, l617, l738, l800, l999, l1000, l1500, l1600, l2400, l3195, l5920, l5995, l11990, l99999, l1000000, l100000000, l1000000000, l2000000000, l2147483647]; rfl, fun a ha h2 => ?_, g1, ?_, ?_, ?_⟩
  · rw [up1_ne h2, up1_ne (by omega)]; exact f1 a (by omega)
  · refine ⟨?_, fun t ht => ?_⟩
    · rw [up1_ne (by omega), up1_eq, ups_ne (by omega)]; exact r1.1
    · have := r1.2 t ht
      unfold BkRel at *
      simp (disch := omega) only [up1_ne]
      exact this
  · rw [up1_ne (by omega), up1_eq, ups_eq]
  · rw [up1_eq, ups_eq]
/-- the row of Steps, turned by one -/
def rot (u : Nat → Nat) : Nat → Nat := fun k => if k = 15 then u 0 else u (k + 1)
theorem StSh.fr {lo hi : Nat} {τ : Hp} (h : StSh s u σ) (hf : ShFr lo hi σ τ) (hb : s + 418 ≤ lo ∨ hi ≤ s) : StSh s u τ := by
  obtain ⟨h1, h2, h3, h4, h5, h6, h7⟩ := h
  refine ⟨by rw [hf.1]; exact h1, by rw [(hf.2.2 s (by omega)).1]; exact h2, by rw [(hf.2.2 s (by omega)).2.2]; exact h3, by rw [(hf.2.2 (s + 1) (by omega)).1]; exact h4, by rw [(hf.2.2 (s + 1) (by omega)).2.1]; exact h5, fun k hk => ?_, h7⟩
  obtain ⟨g1, g2, g3, g4⟩ := h6 k hk
  exact ⟨by rw [(hf.2.2 (s + 1) (by omega)).2.2]; exact g1, g2.fr hf (by omega), g3, g4⟩
theorem X_append (h : StSh s u σ) (hq : BsSh p σ) (hK : KN K) (hd : p + 26 ≤ s ∨ s + 418 ≤ p) {n : Nat} {z : Int32} {KS : Nat → Int32} {PS : Nat → Int64} (hS : StRel I L s u n KS PS) (hr : BsRel I L p K P) :
    ∃ τ u' I' L', X4_append (some s) (some p) z (hw σ I L) = some (hw τ I' L') ∧ ShFr (s + 1) (s + 2) σ τ ∧ hsz τ = hsz σ ∧ hus τ = hus σ ∧ StSh s u' τ ∧ FrI s (s + 418) I I' ∧ FrL s (s + 418) L L' ∧
      I' s 1 = ofN (if n = 16 then 16 else n + 1) ∧ (BsRel I' L' (u' (if n = 16 then 15 else n)) K P ∧ I' (u' (if n = 16 then 15 else n)) 2 = z) ∧
      ∀ k, k < (if n = 16 then 15 else n) → BsRel I' L' (u' k) (rwK KS (if n = 16 then k + 1 else k)) (rwP PS (if n = 16 then k + 1 else k)) ∧ I' (u' k) 2 = KS (370 * (if n = 16 then k + 1 else k) + 369) := by
  obtain ⟨hn, hn16, hk⟩ := hS
  by_cases e16 : n = 16
  · subst e16
    have hs := h
    obtain ⟨h1, h2, h3, h4, h5, h6, h7⟩ := h
    have fr : ShFr (s + 1) (s + 2) σ (wR (rR σ (s + 1) (va_cpy (hR σ (s + 1)) (hR σ (s + 1)) 1 0 15)) (s + 1) 15 (some (u 0))) := by
      refine ⟨rfl, rfl, fun a ha => ⟨rfl, rfl, ?_⟩⟩
      show up2 (up1 (hR σ) (s + 1) _) (s + 1) 15 _ a = _
      rw [up2_row, up1_ne (by omega), up1_ne (by omega)]
    have h' : StSh s (rot u) (wR (rR σ (s + 1) (va_cpy (hR σ (s + 1)) (hR σ (s + 1)) 1 0 15)) (s + 1) 15 (some (u 0))) := by
      refine ⟨h1, h2, ?_, h4, h5, fun k hk2 => ?_, fun i j hi hj hij => ?_⟩
      · show up2 (up1 (hR σ) (s + 1) _) (s + 1) 15 _ s 0 = _
        rw [up2_row, up1_ne (by omega), up1_ne (by omega)]
        exact h3
      · have e0 : hR (wR (rR σ (s + 1) (va_cpy (hR σ (s + 1)) (hR σ (s + 1)) 1 0 15)) (s + 1) 15 (some (u 0))) (s + 1) k = some (rot u k) := by
          show up2 (up1 (hR σ) (s + 1) _) (s + 1) 15 _ (s + 1) k = _
          rw [up2_row, up1_eq, up1_eq]
          unfold ups va_cpy rot
          by_cases e : k = 15
          · rw [if_pos e, if_pos e]
          · rw [if_neg e, if_neg e, if_pos (by omega), show 1 + (k - 0) = k + 1 by omega]
            exact (h6 (k + 1) (by omega)).1
        refine ⟨e0, ?_⟩
        unfold rot
        by_cases e : k = 15
        · rw [if_pos e]
          obtain ⟨-, g2, g3, g4⟩ := h6 0 (by omega)
          exact ⟨g2.fr fr (by omega), g3, g4⟩
        · rw [if_neg e]
          obtain ⟨-, g2, g3, g4⟩ := h6 (k + 1) (by omega)
          exact ⟨g2.fr fr (by omega), g3, g4⟩
      · unfold rot
        by_cases e : i = 15
        · rw [if_pos e, if_neg (by omega)]
          exact h7 0 (j + 1) (by omega) (by omega) (by omega)
        · rw [if_neg e]
          by_cases e2 : j = 15
          · rw [if_pos e2]
            exact h7 (i + 1) 0 (by omega) (by omega) (by omega)
          · rw [if_neg e2]
            exact h7 (i + 1) (j + 1) (by omega) (by omega) (by omega)
    have I0 : ∀ a, a ≠ s → up1 I s (ups (I s) 1 (ofN 15)) a = I a := fun a ha => up1_ne ha
    have fr0 : FrI s (s + 1) I (up1 I s (ups (I s) 1 (ofN 15))) := fun a ha => up1_ne (by omega)
    obtain ⟨I', L', e1, f1, g1, r1, z1, n1⟩ := X_app49 (I := up1 I s (ups (I s) 1 (ofN 15))) (L := L) h' (hq.fr fr (by omega)) hK hd (z := z) (n := 15) (by rw [up1_eq, ups_eq]) (by omega) (hr.fr fr0 FrL.rfl (by omega))
    obtain ⟨-, -, un2, un3⟩ := h'.2.2.2.2.2.1 15 (by omega)
    refine ⟨_, rot u, I', L', ?_, fr, rfl, rfl, h', fun a ha => (f1 a (by omega) (by omega)).trans (I0 a (by omega)), g1.wide (by omega) (by omega), ?_, ?_, ?_⟩
    · have c1 : cpR 8 8 (hw σ I L) (some (s + 1)) (ofN 1) (some (s + 1)) (ofN 0) (ofN 15) = some (hw (rR σ (s + 1) (va_cpy (hR σ (s + 1)) (hR σ (s + 1)) 1 0 15)) I L) := cpR_hw h4 h4 (by omega) (by rw [h5]; omega) (by rw [h5]; omega) (by omega) (by omega) (by omega) (fun i hi => by
        rw [(h6 (1 + i) (by omega)).1, Option.all_some, (h6 (1 + i) (by omega)).2.1.2.1]; rfl)
      have s1 : sR 8 (hw (rR σ (s + 1) (va_cpy (hR σ (s + 1)) (hR σ (s + 1)) 1 0 15)) I L) (some (s + 1)) (ofN 15) (some (u 0)) = some (hw (wR (rR σ (s + 1) (va_cpy (hR σ (s + 1)) (hR σ (s + 1)) 1 0 15)) (s + 1) 15 (some (u 0))) I L) := sR_hw h4 (by show 15 < hln σ (s + 1); rw [h5]; omega) (by omega) (by show hlo σ ≤ _; omega) (by
        rw [Option.all_some]
        show okA 8 (htg σ (u 0)) = true
        rw [(h6 0 (by omega)).2.1.2.1]; rfl)
      have g5 : ∀ v, gR (hw (rR σ (s + 1) (va_cpy (hR σ (s + 1)) (hR σ (s + 1)) 1 0 15)) I L) (some s) [4] 0 = some v → v = some (s + 1) := by
        intro v hv
        have e : gR (hw (rR σ (s + 1) (va_cpy (hR σ (s + 1)) (hR σ (s + 1)) 1 0 15)) I L) (some s) [4] 0 = some (hR (rR σ (s + 1) (va_cpy (hR σ (s + 1)) (hR σ (s + 1)) 1 0 15)) s 0) := gR_hw (by show htg σ s ∈ [4]; rw [h2]; exact List.mem_singleton.mpr rfl)
        rw [e] at hv
        have e2 : hR (rR σ (s + 1) (va_cpy (hR σ (s + 1)) (hR σ (s + 1)) 1 0 15)) s 0 = some (s + 1) := by
          show up1 (hR σ) (s + 1) _ s 0 = _
          rw [up1_ne (by omega)]
          exact h3
        rw [e2] at hv
        exact (Option.some.inj hv).symm
      have g6 : gR (hw (rR σ (s + 1) (va_cpy (hR σ (s + 1)) (hR σ (s + 1)) 1 0 15)) I L) (some s) [4] 0 = some (some (s + 1)) := by
        have e : gR (hw (rR σ (s + 1) (va_cpy (hR σ (s + 1)) (hR σ (s + 1)) 1 0 15)) I L) (some s) [4] 0 = some (hR (rR σ (s + 1) (va_cpy (hR σ (s + 1)) (hR σ (s + 1)) 1 0 15)) s 0) := gR_hw (by show htg σ s ∈ [4]; rw [h2]; exact List.mem_singleton.mpr rfl)
        rw [e, g5 _ e]
      simp (disch := first | omega | assumption) only [X4_append, tgI hs, tgR0 hs, taR hs, hn, c1, g6, s1, tgI h', tpI h', Option.bind_some, ofN_add, ofN_mul, ofN_sub, ofN_lt, ofN_le, ofN_inj, ofN_dec, ofN_lt_neg, neg_lt_ofN, ofN_le_neg, neg_le_ofN, ofN_eq_neg, neg_eq_ofN, ofN_irm, ofN_div, l0, l1, l2, l3, l4, l5, l6, l7, l8, l9, l10, l11, l12, l13, l14, l15, l16, l17, l18, l19, l20, l21, l22, l23, l24, l25, l26, l27, l28, l29, l30, l31, l32, l33, l34, l35, l36, l37, l38, l39, l40, l41, l42, l43, l44, l45, l46, l47, l48, l49, l50, l51, l52, l53, l54, l55, l56, l57, l58, l59, l60, l61, l62, l63, l64, l65, l66, l67, l68, l69, l70, l71, l72, l73, l74, l75, l76, l77, l78, l79, l80, l81, l82, l83, l84, l85, l86, l87, l88, l89, l90, l91, l92, l93, l94, l95, l96, l97, l98, l99, l100, l101, l102, l103, l104, l105, l106, l107, l108, l109, l110, l111, l112, l113, l114, l115, l116, l117, l118, l119, l120, l121, l122, l123, l124, l125, l126, l127, l128, l129, l130, l131, l196, l200, l245, l255, l368, l369, l370, l382, l383, l384, l385, l386, l387, l388, l394, l395, l400, l401, l617, l738, l800, l999, l1000, l1500, l1600, l2400, l3195, l5920, l5995, l11990, l99999, l1000000, l100000000, l1000000000, l2000000000, l2147483647]
      rw [if_true]
      exact e1
    · rw [if_pos rfl]; exact n1
    · rw [if_pos rfl]; exact ⟨r1, z1⟩
    · rw [if_pos rfl]
      intro k hk2
      rw [if_pos rfl]
      have hap := h'.2.2.2.2.2.2 k 15 (by omega) (by omega) (by omega)
      obtain ⟨-, -, uk2, uk3⟩ := h'.2.2.2.2.2.1 k (by omega)
      have ek : rot u k = u (k + 1) := if_neg (by omega)
      obtain ⟨k1, k2⟩ := hk (k + 1) (by omega)
      rw [ek] at hap uk2 uk3 ⊢
      have fI : ∀ a, u (k + 1) ≤ a → a < u (k + 1) + 26 → I' a = I a := fun a h1 h2 => (f1 a (by omega) (by omega)).trans (I0 a (by omega))
      refine ⟨⟨by rw [fI _ (by omega) (by omega)]; exact k1.1, fun t ht => ?_⟩, by rw [fI _ (by omega) (by omega)]; exact k2⟩
      have := k1.2 t ht
      unfold BkRel at *
      rw [fI _ (by omega) (by omega), fI _ (by omega) (by omega), fI _ (by omega) (by omega), fI _ (by omega) (by omega), fI _ (by omega) (by omega), g1 _ (by omega)]
      exact this
  · obtain ⟨I', L', e1, f1, g1, r1, z1, n1⟩ := X_app49 h hq hK hd (z := z) hn (by omega) hr
    obtain ⟨-, un1, un2, un3⟩ := h.2.2.2.2.2.1 n (by omega)
    refine ⟨σ, u, I', L', ?_, ShFr.rfl, rfl, rfl, h, fun a ha => f1 a (by omega) (by omega), g1.wide (by omega) (by omega), ?_, ?_, ?_⟩
    · simp (disch := first | omega | assumption) only [X4_append, tgI h, hn, Option.bind_some, ofN_add, ofN_mul, ofN_sub, ofN_lt, ofN_le, ofN_inj, ofN_dec, ofN_lt_neg, neg_lt_ofN, ofN_le_neg, neg_le_ofN, ofN_eq_neg, neg_eq_ofN, ofN_irm, ofN_div, l0, l1, l2, l3, l4, l5, l6, l7, l8, l9, l10, l11, l12, l13, l14, l15, l16, l17, l18, l19, l20, l21, l22, l23, l24, l25, l26, l27, l28, l29, l30, l31, l32, l33, l34, l35, l36, l37, l38, l39, l40, l41, l42, l43, l44, l45, l46, l47, l48, l49, l50, l51, l52, l53, l54, l55, l56, l57, l58, l59, l60, l61, l62, l63, l64, l65, l66, l67, l68, l69, l70, l71, l72, l73, l74, l75, l76, l77, l78, l79, l80, l81, l82, l83, l84, l85, l86, l87, l88, l89, l90, l91, l92, l93, l94, l95, l96, l97, l98, l99, l100, l101, l102, l103, l104, l105, l106, l107, l108, l109, l110, l111, l112, l113, l114, l115, l116, l117, l118, l119, l120, l121, l122, l123, l124, l125, l126, l127, l128, l129, l130, l131, l196, l200, l245, l255, l368, l369, l370, l382, l383, l384, l385, l386, l387, l388, l394, l395, l400, l401, l617, l738, l800, l999, l1000, l1500, l1600, l2400, l3195, l5920, l5995, l11990, l99999, l1000000, l100000000, l1000000000, l2000000000, l2147483647]
      rw [if_neg e16]
      exact e1
    · rw [if_neg e16]; exact n1
    · rw [if_neg e16]; exact ⟨r1, z1⟩
    · rw [if_neg e16]
      intro k hk2
      rw [if_neg e16]
      have hap := h.2.2.2.2.2.2 k n (by omega) (by omega) (by omega)
      obtain ⟨-, -, uk2, uk3⟩ := h.2.2.2.2.2.1 k (by omega)
      obtain ⟨k1, k2⟩ := hk k hk2
      have fI : ∀ a, u k ≤ a → a < u k + 26 → I' a = I a := fun a h1 h2 => f1 a (by omega) (by omega)
      refine ⟨⟨by rw [fI _ (by omega) (by omega)]; exact k1.1, fun t ht => ?_⟩, by rw [fI _ (by omega) (by omega)]; exact k2⟩
      have := k1.2 t ht
      unfold BkRel at *
      rw [fI _ (by omega) (by omega), fI _ (by omega) (by omega), fI _ (by omega) (by omega), fI _ (by omega) (by omega), fI _ (by omega) (by omega), g1 _ (by omega)]
      exact this
end XSTEPS
