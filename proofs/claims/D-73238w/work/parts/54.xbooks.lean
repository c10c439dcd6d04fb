set_option maxRecDepth 100000
/-! BOOKS: four Books behind a row, made at one place -/
def BsSh (p : Nat) (σ : Hp) : Prop := hlo σ ≤ p ∧ htg σ p = 2 ∧ hR σ p 0 = some (p + 1) ∧ htg σ (p + 1) = 107 ∧ hln σ (p + 1) = 4 ∧ ∀ t, t < 4 → hR σ (p + 1) t = some (p + 2 + 6 * t) ∧ BkSh (p + 2 + 6 * t) σ
/-- shapes alike but between two addresses -/
def ShFr (lo hi : Nat) (σ τ : Hp) : Prop := hlo τ = hlo σ ∧ hst τ = hst σ ∧ ∀ a, a < lo ∨ hi ≤ a → htg τ a = htg σ a ∧ hln τ a = hln σ a ∧ hR τ a = hR σ a
theorem ShFr.rfl {lo hi : Nat} {σ : Hp} : ShFr lo hi σ σ := ⟨Eq.refl _, Eq.refl _, fun _ _ => ⟨Eq.refl _, Eq.refl _, Eq.refl _⟩⟩
theorem ShFr.trans {lo hi : Nat} {σ τ υ : Hp} (h : ShFr lo hi σ τ) (h' : ShFr lo hi τ υ) : ShFr lo hi σ υ := ⟨h'.1.trans h.1, h'.2.1.trans h.2.1, fun a ha => ⟨(h'.2.2 a ha).1.trans (h.2.2 a ha).1, (h'.2.2 a ha).2.1.trans (h.2.2 a ha).2.1, (h'.2.2 a ha).2.2.trans (h.2.2 a ha).2.2⟩⟩
theorem ShFr.wide {lo hi lo' hi' : Nat} {σ τ : Hp} (h : ShFr lo hi σ τ) (h1 : lo' ≤ lo) (h2 : hi ≤ hi') : ShFr lo' hi' σ τ := ⟨h.1, h.2.1, fun a ha => h.2.2 a (by omega)⟩
theorem BkSh.fr {lo hi b : Nat} {σ τ : Hp} (h : BkSh b σ) (hf : ShFr lo hi σ τ) (hb : b + 6 ≤ lo ∨ hi ≤ b) : BkSh b τ := by
  refine ⟨by rw [hf.1]; exact h.1, by rw [(hf.2.2 b (by omega)).1]; exact h.2.1, fun q hq => ?_⟩
  have hq5 : q.2.1 ≤ 5 := by
    simp only [btab, List.mem_cons, List.not_mem_nil, or_false] at hq
    rcases hq with e | e | e | e | e <;> rw [e] <;> decide
  rw [(hf.2.2 b (by omega)).2.2, (hf.2.2 (b + q.2.1) (by omega)).1, (hf.2.2 (b + q.2.1) (by omega)).2.1]
  exact h.2.2 q hq
theorem BsSh.fr {lo hi p : Nat} {σ τ : Hp} (h : BsSh p σ) (hf : ShFr lo hi σ τ) (hb : p + 26 ≤ lo ∨ hi ≤ p) : BsSh p τ := by
  obtain ⟨h1, h2, h3, h4, h5, h6⟩ := h
  refine ⟨by rw [hf.1]; exact h1, by rw [(hf.2.2 p (by omega)).1]; exact h2, by rw [(hf.2.2 p (by omega)).2.2]; exact h3, by rw [(hf.2.2 (p + 1) (by omega)).1]; exact h4, by rw [(hf.2.2 (p + 1) (by omega)).2.1]; exact h5, fun t ht => ⟨by rw [(hf.2.2 (p + 1) (by omega)).2.2]; exact (h6 t ht).1, (h6 t ht).2.fr hf (by omega)⟩⟩
theorem MSh.fr {lo hi m : Nat} {σ τ : Hp} (h : MSh m σ) (hf : ShFr lo hi σ τ) (hb : m + 36 ≤ lo ∨ hi ≤ m) : MSh m τ := by
  refine ⟨by rw [hf.1]; exact h.1, by rw [(hf.2.2 m (by omega)).1]; exact h.2.1, fun q hq => ?_⟩
  have hq5 : q.2.1 ≤ 35 := by
    have : ∀ q ∈ mtab, q.2.1 ≤ 35 := by decide
    exact this q hq
  rw [(hf.2.2 m (by omega)).2.2, (hf.2.2 (m + q.2.1) (by omega)).1, (hf.2.2 (m + q.2.1) (by omega)).2.1]
  exact h.2.2 q hq
/-- Books at p hold the ints K, the parts P -/
def BsRel (I : IM) (L : LM) (p : Nat) (K : Nat → Int32) (P : Nat → Int64) : Prop := I p 1 = K 368 ∧ ∀ t, t < 4 → BkRel I L (p + 2 + 6 * t) (vw K t) (vwL P t)
theorem BsRel.fr {I I' : IM} {L L' : LM} {p lo hi : Nat} {K : Nat → Int32} {P : Nat → Int64} (h : BsRel I L p K P) (h1 : FrI lo hi I I') (h2 : FrL lo hi L L') (hb : p + 26 ≤ lo ∨ hi ≤ p) : BsRel I' L' p K P := ⟨by rw [h1 p (by omega)]; exact h.1, fun t ht => (h.2 t ht).fr h1 h2 (by omega)⟩
/-- all tenants' numbers are as they must be -/
def KN (K : Nat → Int32) : Prop := ∀ t, t < 4 → ∃ n ns nr l, BD (vw K t) n ns nr l
section XBOOKS
variable {σ : Hp} {I : IM} {L : LM} {b p : Nat} {B : Nat → Int32} {Q : Nat → Int64}
theorem sgR0 (h : BsSh p σ) : gR (hw σ I L) (some p) [2] 0 = some (some (p + 1)) := (gR_hw (by rw [h.2.1]; exact List.mem_singleton.mpr rfl)).trans (congrArg some h.2.2.1)
theorem sgI {k : Nat} (h : BsSh p σ) : gI (hw σ I L) (some p) [2] k = some (I p k) := gI_hw (by rw [h.2.1]; exact List.mem_singleton.mpr rfl)
theorem spI {k : Nat} {v : Int32} (h : BsSh p σ) : pI (hw σ I L) (some p) [2] k v = some (hw σ (up1 I p (ups (I p) k v)) L) := pI_hw (by rw [h.2.1]; exact List.mem_singleton.mpr rfl) h.1
theorem scT (h : BsSh p σ) : cT (hw σ I L) (some p) 2 = some p := cT_hw h.2.1
theorem saR {t : Nat} (h : BsSh p σ) (ht : t < 4) : aR 7 (hw σ I L) (some (p + 1)) (ofN t) = some (some (p + 2 + 6 * t)) := (aR_hw h.2.2.2.1 (by rw [h.2.2.2.2.1]; exact ht) (by omega)).trans (congrArg some (h.2.2.2.2.2 t ht).1)
theorem saN (h : BsSh p σ) : aN (hw σ I L) (some (p + 1)) = some (ofN 4) := by rw [aN_hw (by rw [h.2.2.2.1]; decide) (by rw [h.2.2.2.1]; decide), h.2.2.2.2.1]
theorem X_as {b' : Nat} (h : BkSh b σ) (h' : BkSh b' σ) {n ns nr l : Nat} (hr : BkRel I L b' B Q) (hB : BN B n ns nr l) (hd : b + 6 ≤ b' ∨ b' + 6 ≤ b) :
    ∃ I' L', X3_as (some b) (some b') (hw σ I L) = some (some b, hw σ I' L') ∧ FrI b (b + 6) I I' ∧ FrL b (b + 6) L L' ∧ BkRel I' L' b B Q := by
  obtain ⟨⟨n0, n1⟩, ⟨s0, s1⟩, ⟨r0, r1⟩, lm0, lm1, lm2⟩ := hB
  obtain ⟨x5, x6, x7, x8, xs, xc, xm, xr, xp, xq⟩ := hr
  rw [n0, nat32_ofN (by omega)] at xs
  rw [s0, nat32_ofN (by omega)] at xm
  rw [r0, nat32_ofN (by omega)] at xr
  have rR0 : gR (hw σ I L) (some b') [3] 0 = some (some (b' + 1)) := bR0 h'
  simp (disch := first | omega | assumption) only [X3_as, bC0 h h', bC1 h h', bC2 h h', bC3 h h', bC4 h h', up1_eq, up1_ne, ups_eq, ups_ne, bgI, bgL, bpI, bpZ0, bpZ1, bpL, bcT, bR0, bN0, bA0, bS0, bR1, bN1, bA1, bS1, bR2, bN2, bA2, bS2, bR3, bN3, bA3, bS3, bR4, bN4, bA4, bS4, Option.bind_some, ofN_add, ofN_mul, ofN_sub, ofN_lt, ofN_le, ofN_inj, ofN_dec, ofN_lt_neg, neg_lt_ofN, ofN_le_neg, neg_le_ofN, ofN_eq_neg, neg_eq_ofN, ofN_irm, ofN_div, l0, l1, l2, l3, l4, l5, l6, l7, l8, l9, l10, l11, l12, l13, l14, l15, l16, l17, l18, l19, l20, l21, l22, l23, l24, l25, l26, l27, l28, l29, l30, l31, l32, l33, l34, l35, l36, l37, l38, l39, l40, l41, l42, l43, l44, l45, l46, l47, l48, l49, l50, l51, l52, l53, l54, l55, l56, l57, l58, l59, l60, l61, l62, l63, l64, l65, l66, l67, l68, l69, l70, l71, l72, l73, l74, l75, l76, l77, l78, l79, l80, l81, l82, l83, l84, l85, l86, l87, l88, l89, l90, l91, l92, l93, l94, l95, l96, l97, l98, l99, l100, l101, l102, l103, l104, l105, l106, l107, l108, l109, l110, l111, l112, l113, l114, l115, l116, l117, l118, l119, l120, l121, l122, l123, l124, l125, l126, l127, l128, l129, l130, l131, l196, l200, l245, l255, l368, l369, l370, l382, l383, l384, l385, l386, l387, l388, l394, l395, l400, l401, l617, l738, l800, l999, l1000, l1500, l1600, l2400, l3195, l5920, l5995, l11990, l99999, l1000000, l100000000, l1000000000, l2000000000, l2147483647]
  refine ⟨_, _, rfl, fun a ha => by simp (disch := omega) only [up1_ne], fun a ha => by simp (disch := omega) only [up1_ne], ?_, ?_, ?_, ?_, ?_, ?_, ?_, ?_, ?_, ?_⟩
  all_goals simp (disch := omega) only [up1_eq, up1_ne, ups_eq, ups_ne, n0, s0, r0, nat32_ofN]
  · rw [x5, n0]
  · rw [x6, s0]
  · rw [x7, r0]
  · exact x8
  all_goals unfold va_cpy
  · intro i hi; rw [if_pos (by omega), Nat.zero_add, Nat.sub_zero]; exact xs i hi
  · intro i hi; rw [if_pos (by omega), Nat.zero_add, Nat.sub_zero]; exact xc i hi
  · intro i hi; rw [if_pos (by omega), Nat.zero_add, Nat.sub_zero]; exact xm i hi
  · intro i hi; rw [if_pos (by omega), Nat.zero_add, Nat.sub_zero]; exact xr i hi
  · intro i i1 i2; rw [if_pos (by omega), Nat.zero_add, Nat.sub_zero]; exact xp i i1 i2
  · rw [if_pos (by omega), Nat.zero_add, Nat.sub_zero]; exact xq
end XBOOKS
