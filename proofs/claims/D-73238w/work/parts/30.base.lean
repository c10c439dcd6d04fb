set_option maxRecDepth 100000
/-! STAGE 2. Heaps of one shape: hw σ I L has the shape of σ, the ints I, the longs L -/
abbrev IM : Type := Nat → Nat → Int32
abbrev LM : Type := Nat → Nat → Int64
def hw (σ : Hp) (I : IM) (L : LM) : Hp := (σ.1, σ.2.1, I, L, σ.2.2.2.2)
/-- one place of a row -/
def ups {α : Type} (g : Nat → α) (k : Nat) (v : α) : Nat → α := fun j => if j = k then v else g j
section HW
variable {σ : Hp} {I I' : IM} {L L' : LM} {a b k t n u : Nat} {v : Int32} {w : Int64}
theorem hw_self : hw σ (hI σ) (hL σ) = σ := rfl
theorem htg_hw : htg (hw σ I L) = htg σ := rfl
theorem hln_hw : hln (hw σ I L) = hln σ := rfl
theorem hR_hw : hR (hw σ I L) = hR σ := rfl
theorem hlo_hw : hlo (hw σ I L) = hlo σ := rfl
theorem hsz_hw : hsz (hw σ I L) = hsz σ := rfl
theorem hus_hw : hus (hw σ I L) = hus σ := rfl
theorem hst_hw : hst (hw σ I L) = hst σ := rfl
theorem hI_hw : hI (hw σ I L) = I := rfl
theorem hL_hw : hL (hw σ I L) = L := rfl
theorem hw_hw : hw (hw σ I L) I' L' = hw σ I' L' := rfl
theorem up2_row {α : Type} {f : Nat → Nat → α} {v : α} : up2 f a k v = up1 f a (ups (f a) k v) := by
  funext b j
  unfold up2 up1 ups
  by_cases h : b = a
  · subst h
    simp only [true_and, if_true]
  · simp only [h, false_and, if_false]
theorem wI_hw : wI (hw σ I L) a k v = hw σ (up1 I a (ups (I a) k v)) L := by rw [← up2_row]; rfl
theorem wL_hw : wL (hw σ I L) a k w = hw σ I (up1 L a (ups (L a) k w)) := by rw [← up2_row]; rfl
theorem rI_hw {g : Nat → Int32} : rI (hw σ I L) a g = hw σ (up1 I a g) L := rfl
theorem rL_hw {g : Nat → Int64} : rL (hw σ I L) a g = hw σ I (up1 L a g) := rfl
theorem wR_hw {v : Option Nat} : wR (hw σ I L) a k v = hw (wR σ a k v) I L := rfl
theorem rR_hw {g : Nat → Option Nat} : rR (hw σ I L) a g = hw (rR σ a g) I L := rfl
theorem wN_hw : wN (hw σ I L) t n u = hw (wN σ t n u) (up1 I (hsz σ) fun _ => 0) (up1 L (hsz σ) fun _ => 0) := rfl
theorem up1_eq {α : Type} {f : Nat → Nat → α} {g : Nat → α} : up1 f a g a = g := if_pos rfl
theorem up1_ne {α : Type} {f : Nat → Nat → α} {g : Nat → α} (h : b ≠ a) : up1 f a g b = f b := if_neg h
theorem up1_up1 {α : Type} {f : Nat → Nat → α} {g g' : Nat → α} : up1 (up1 f a g) a g' = up1 f a g' := by
  funext b
  unfold up1
  split <;> rfl
theorem up1_self {α : Type} {f : Nat → Nat → α} : up1 f a (f a) = f := by
  funext b
  unfold up1
  split
  · next h => rw [h]
  · rfl
theorem up1_comm {α : Type} {f : Nat → Nat → α} {g g' : Nat → α} (h : a ≠ b) : up1 (up1 f a g) b g' = up1 (up1 f b g') a g := by
  funext c
  unfold up1
  split
  · next e => rw [if_neg (fun q : c = a => h (q.symm.trans e))]
  · rfl
theorem ups_eq {α : Type} {g : Nat → α} {v : α} : ups g k v k = v := if_pos rfl
theorem ups_ne {α : Type} {g : Nat → α} {v : α} (h : n ≠ k) : ups g k v n = g n := if_neg h
theorem ups_ups {α : Type} {g : Nat → α} {v v' : α} : ups (ups g k v) k v' = ups g k v' := by
  funext b
  unfold ups
  split <;> rfl
end HW
/-! numbers -/
def ofN (n : Nat) : Int32 := Int32.ofNat n
section OFN
variable {a b : Nat}
theorem ofN_add : ofN a + ofN b = ofN (a + b) := (Int32.ofNat_add a b).symm
theorem ofN_mul : ofN a * ofN b = ofN (a * b) := (Int32.ofNat_mul a b).symm
theorem ofN_sub (h : b ≤ a) : ofN a - ofN b = ofN (a - b) := (Int32.ofNat_sub a b h).symm
theorem ofN_div (ha : a < 2147483648) (hb : b < 2147483648) : ofN a / ofN b = ofN (a / b) := (Int32.ofNat_div ha hb).symm
theorem ofN_lt (ha : a < 2147483648) (hb : b < 2147483648) : (ofN a < ofN b) = (a < b) := propext (Int32.ofNat_lt_iff_lt ha hb)
theorem ofN_le (ha : a < 2147483648) (hb : b < 2147483648) : (ofN a ≤ ofN b) = (a ≤ b) := propext (Int32.ofNat_le_iff_le ha hb)
theorem ofN_toN (ha : a < 2147483648) : (ofN a).toNatClampNeg = a := Int32.toNatClampNeg_ofNat_of_lt ha
theorem ofN_toInt (ha : a < 2147483648) : (ofN a).toInt = a := Int32.toInt_ofNat_of_lt ha
theorem ofN_inj (ha : a < 2147483648) (hb : b < 2147483648) : (ofN a = ofN b) = (a = b) := by
  apply propext
  constructor
  · intro h
    have := congrArg Int32.toNatClampNeg h
    rw [ofN_toN ha, ofN_toN hb] at this
    exact this
  · intro h; rw [h]
theorem ofN_irm (ha : a < 2147483648) (hb : b < 2147483648) : irm (ofN a) (ofN b) = ofN (a % b) := by
  unfold irm
  rw [ofN_div ha hb, ofN_mul, ofN_sub (Nat.div_mul_le_self a b)]
  congr 1
  have := Nat.div_add_mod a b
  rw [Nat.mul_comm] at this
  omega
theorem ofN_dec (h : 1 ≤ a) : ofN a + -ofN 1 = ofN (a - 1) := by
  rw [← Int32.sub_eq_add_neg, ofN_sub h]
theorem ofN_zadd : ofN 0 + ofN a = ofN a := by rw [ofN_add, Nat.zero_add]
theorem neg_toInt (h : a < 2147483648) : (-ofN a).toInt = -(a : Int) := by
  rw [Int32.toInt_neg, ofN_toInt h]
  apply Int.bmod_eq_of_le <;> omega
theorem ofN_lt_neg (ha : a < 2147483648) (hb : b < 2147483648) : (ofN a < -ofN b) = False := by
  rw [Int32.lt_iff_toInt_lt, neg_toInt hb, ofN_toInt ha]
  apply eq_false; omega
theorem neg_lt_ofN (ha : a < 2147483648) (hb : b < 2147483648) (h : 1 ≤ b) : (-ofN b < ofN a) = True := by
  rw [Int32.lt_iff_toInt_lt, neg_toInt hb, ofN_toInt ha]
  apply eq_true; omega
theorem ofN_le_neg (ha : a < 2147483648) (hb : b < 2147483648) (h : 1 ≤ b) : (ofN a ≤ -ofN b) = False := by
  rw [Int32.le_iff_toInt_le, neg_toInt hb, ofN_toInt ha]
  apply eq_false; omega
theorem neg_le_ofN (ha : a < 2147483648) (hb : b < 2147483648) : (-ofN b ≤ ofN a) = True := by
  rw [Int32.le_iff_toInt_le, neg_toInt hb, ofN_toInt ha]
  apply eq_true; omega
theorem ofN_eq_neg (ha : a < 2147483648) (hb : b < 2147483648) (h : 1 ≤ b) : (ofN a = -ofN b) = False := by
  rw [← Int32.toInt_inj, neg_toInt hb, ofN_toInt ha]
  apply eq_false; omega
theorem neg_eq_ofN (ha : a < 2147483648) (hb : b < 2147483648) (h : 1 ≤ b) : (-ofN b = ofN a) = False := by
  rw [← Int32.toInt_inj, neg_toInt hb, ofN_toInt ha]
  apply eq_false; omega
/-- a number of a range -/
theorem ofN_of {x : Int32} (h : ofN 0 ≤ x) : ∃ n, n < 2147483648 ∧ x = ofN n := by
  refine ⟨x.toNatClampNeg, ?_, ?_⟩
  · have := Int32.toInt_lt x
    have h1 := Int32.toInt_eq_toNatClampNeg h
    omega
  · exact (Int32.ofNat_toNatClampNeg x h).symm
theorem ofN_of_le {x : Int32} {c : Nat} (hc : c < 2147483648) (h : ofN 0 ≤ x) (h' : x ≤ ofN c) : ∃ n, n ≤ c ∧ x = ofN n := by
  obtain ⟨n, hn, rfl⟩ := ofN_of h
  rw [ofN_le hn hc] at h'
  exact ⟨n, h', rfl⟩
theorem not_lt32 {x y : Int32} : (¬ x < y) = (y ≤ x) := propext Int32.not_lt
theorem not_le32 {x y : Int32} : (¬ x ≤ y) = (y < x) := propext Int32.not_le
end OFN
section LITS
theorem l0 : (0 : Int32) = ofN 0 := rfl
theorem l1 : (1 : Int32) = ofN 1 := rfl
theorem l2 : (2 : Int32) = ofN 2 := rfl
theorem l3 : (3 : Int32) = ofN 3 := rfl
theorem l4 : (4 : Int32) = ofN 4 := rfl
theorem l5 : (5 : Int32) = ofN 5 := rfl
theorem l6 : (6 : Int32) = ofN 6 := rfl
theorem l7 : (7 : Int32) = ofN 7 := rfl
theorem l8 : (8 : Int32) = ofN 8 := rfl
theorem l9 : (9 : Int32) = ofN 9 := rfl
theorem l10 : (10 : Int32) = ofN 10 := rfl
theorem l11 : (11 : Int32) = ofN 11 := rfl
theorem l12 : (12 : Int32) = ofN 12 := rfl
theorem l13 : (13 : Int32) = ofN 13 := rfl
theorem l14 : (14 : Int32) = ofN 14 := rfl
theorem l15 : (15 : Int32) = ofN 15 := rfl
theorem l16 : (16 : Int32) = ofN 16 := rfl
theorem l17 : (17 : Int32) = ofN 17 := rfl
theorem l18 : (18 : Int32) = ofN 18 := rfl
theorem l19 : (19 : Int32) = ofN 19 := rfl
theorem l20 : (20 : Int32) = ofN 20 := rfl
theorem l21 : (21 : Int32) = ofN 21 := rfl
theorem l22 : (22 : Int32) = ofN 22 := rfl
theorem l23 : (23 : Int32) = ofN 23 := rfl
theorem l24 : (24 : Int32) = ofN 24 := rfl
theorem l25 : (25 : Int32) = ofN 25 := rfl
theorem l26 : (26 : Int32) = ofN 26 := rfl
theorem l27 : (27 : Int32) = ofN 27 := rfl
theorem l28 : (28 : Int32) = ofN 28 := rfl
theorem l29 : (29 : Int32) = ofN 29 := rfl
theorem l30 : (30 : Int32) = ofN 30 := rfl
theorem l31 : (31 : Int32) = ofN 31 := rfl
theorem l32 : (32 : Int32) = ofN 32 := rfl
theorem l33 : (33 : Int32) = ofN 33 := rfl
theorem l34 : (34 : Int32) = ofN 34 := rfl
theorem l35 : (35 : Int32) = ofN 35 := rfl
theorem l36 : (36 : Int32) = ofN 36 := rfl
theorem l37 : (37 : Int32) = ofN 37 := rfl
theorem l38 : (38 : Int32) = ofN 38 := rfl
theorem l39 : (39 : Int32) = ofN 39 := rfl
theorem l40 : (40 : Int32) = ofN 40 := rfl
theorem l41 : (41 : Int32) = ofN 41 := rfl
theorem l42 : (42 : Int32) = ofN 42 := rfl
theorem l43 : (43 : Int32) = ofN 43 := rfl
theorem l44 : (44 : Int32) = ofN 44 := rfl
theorem l45 : (45 : Int32) = ofN 45 := rfl
theorem l46 : (46 : Int32) = ofN 46 := rfl
theorem l47 : (47 : Int32) = ofN 47 := rfl
theorem l48 : (48 : Int32) = ofN 48 := rfl
theorem l49 : (49 : Int32) = ofN 49 := rfl
theorem l50 : (50 : Int32) = ofN 50 := rfl
theorem l51 : (51 : Int32) = ofN 51 := rfl
theorem l52 : (52 : Int32) = ofN 52 := rfl
theorem l53 : (53 : Int32) = ofN 53 := rfl
theorem l54 : (54 : Int32) = ofN 54 := rfl
theorem l55 : (55 : Int32) = ofN 55 := rfl
theorem l56 : (56 : Int32) = ofN 56 := rfl
theorem l57 : (57 : Int32) = ofN 57 := rfl
theorem l58 : (58 : Int32) = ofN 58 := rfl
theorem l59 : (59 : Int32) = ofN 59 := rfl
theorem l60 : (60 : Int32) = ofN 60 := rfl
theorem l61 : (61 : Int32) = ofN 61 := rfl
theorem l62 : (62 : Int32) = ofN 62 := rfl
theorem l63 : (63 : Int32) = ofN 63 := rfl
theorem l64 : (64 : Int32) = ofN 64 := rfl
theorem l65 : (65 : Int32) = ofN 65 := rfl
theorem l66 : (66 : Int32) = ofN 66 := rfl
theorem l67 : (67 : Int32) = ofN 67 := rfl
theorem l68 : (68 : Int32) = ofN 68 := rfl
theorem l69 : (69 : Int32) = ofN 69 := rfl
theorem l70 : (70 : Int32) = ofN 70 := rfl
theorem l71 : (71 : Int32) = ofN 71 := rfl
theorem l72 : (72 : Int32) = ofN 72 := rfl
theorem l73 : (73 : Int32) = ofN 73 := rfl
theorem l74 : (74 : Int32) = ofN 74 := rfl
theorem l75 : (75 : Int32) = ofN 75 := rfl
theorem l76 : (76 : Int32) = ofN 76 := rfl
theorem l77 : (77 : Int32) = ofN 77 := rfl
theorem l78 : (78 : Int32) = ofN 78 := rfl
theorem l79 : (79 : Int32) = ofN 79 := rfl
theorem l80 : (80 : Int32) = ofN 80 := rfl
theorem l81 : (81 : Int32) = ofN 81 := rfl
theorem l82 : (82 : Int32) = ofN 82 := rfl
theorem l83 : (83 : Int32) = ofN 83 := rfl
theorem l84 : (84 : Int32) = ofN 84 := rfl
theorem l85 : (85 : Int32) = ofN 85 := rfl
theorem l86 : (86 : Int32) = ofN 86 := rfl
theorem l87 : (87 : Int32) = ofN 87 := rfl
theorem l88 : (88 : Int32) = ofN 88 := rfl
theorem l89 : (89 : Int32) = ofN 89 := rfl
theorem l90 : (90 : Int32) = ofN 90 := rfl
theorem l91 : (91 : Int32) = ofN 91 := rfl
theorem l92 : (92 : Int32) = ofN 92 := rfl
theorem l93 : (93 : Int32) = ofN 93 := rfl
theorem l94 : (94 : Int32) = ofN 94 := rfl
theorem l95 : (95 : Int32) = ofN 95 := rfl
theorem l96 : (96 : Int32) = ofN 96 := rfl
theorem l97 : (97 : Int32) = ofN 97 := rfl
theorem l98 : (98 : Int32) = ofN 98 := rfl
theorem l99 : (99 : Int32) = ofN 99 := rfl
theorem l100 : (100 : Int32) = ofN 100 := rfl
theorem l101 : (101 : Int32) = ofN 101 := rfl
theorem l102 : (102 : Int32) = ofN 102 := rfl
theorem l103 : (103 : Int32) = ofN 103 := rfl
theorem l104 : (104 : Int32) = ofN 104 := rfl
theorem l105 : (105 : Int32) = ofN 105 := rfl
theorem l106 : (106 : Int32) = ofN 106 := rfl
theorem l107 : (107 : Int32) = ofN 107 := rfl
theorem l108 : (108 : Int32) = ofN 108 := rfl
theorem l109 : (109 : Int32) = ofN 109 := rfl
theorem l110 : (110 : Int32) = ofN 110 := rfl
theorem l111 : (111 : Int32) = ofN 111 := rfl
theorem l112 : (112 : Int32) = ofN 112 := rfl
theorem l113 : (113 : Int32) = ofN 113 := rfl
theorem l114 : (114 : Int32) = ofN 114 := rfl
theorem l115 : (115 : Int32) = ofN 115 := rfl
theorem l116 : (116 : Int32) = ofN 116 := rfl
theorem l117 : (117 : Int32) = ofN 117 := rfl
theorem l118 : (118 : Int32) = ofN 118 := rfl
theorem l119 : (119 : Int32) = ofN 119 := rfl
theorem l120 : (120 : Int32) = ofN 120 := rfl
theorem l121 : (121 : Int32) = ofN 121 := rfl
theorem l122 : (122 : Int32) = ofN 122 := rfl
theorem l123 : (123 : Int32) = ofN 123 := rfl
theorem l124 : (124 : Int32) = ofN 124 := rfl
theorem l125 : (125 : Int32) = ofN 125 := rfl
theorem l126 : (126 : Int32) = ofN 126 := rfl
theorem l127 : (127 : Int32) = ofN 127 := rfl
theorem l128 : (128 : Int32) = ofN 128 := rfl
theorem l129 : (129 : Int32) = ofN 129 := rfl
theorem l130 : (130 : Int32) = ofN 130 := rfl
theorem l131 : (131 : Int32) = ofN 131 := rfl
theorem l196 : (196 : Int32) = ofN 196 := rfl
theorem l200 : (200 : Int32) = ofN 200 := rfl
theorem l245 : (245 : Int32) = ofN 245 := rfl
theorem l255 : (255 : Int32) = ofN 255 := rfl
theorem l368 : (368 : Int32) = ofN 368 := rfl
theorem l369 : (369 : Int32) = ofN 369 := rfl
theorem l370 : (370 : Int32) = ofN 370 := rfl
theorem l382 : (382 : Int32) = ofN 382 := rfl
theorem l383 : (383 : Int32) = ofN 383 := rfl
theorem l384 : (384 : Int32) = ofN 384 := rfl
theorem l385 : (385 : Int32) = ofN 385 := rfl
theorem l386 : (386 : Int32) = ofN 386 := rfl
theorem l387 : (387 : Int32) = ofN 387 := rfl
theorem l388 : (388 : Int32) = ofN 388 := rfl
theorem l394 : (394 : Int32) = ofN 394 := rfl
theorem l395 : (395 : Int32) = ofN 395 := rfl
theorem l400 : (400 : Int32) = ofN 400 := rfl
theorem l401 : (401 : Int32) = ofN 401 := rfl
theorem l617 : (617 : Int32) = ofN 617 := rfl
theorem l738 : (738 : Int32) = ofN 738 := rfl
theorem l800 : (800 : Int32) = ofN 800 := rfl
theorem l999 : (999 : Int32) = ofN 999 := rfl
theorem l1000 : (1000 : Int32) = ofN 1000 := rfl
theorem l1500 : (1500 : Int32) = ofN 1500 := rfl
theorem l1600 : (1600 : Int32) = ofN 1600 := rfl
theorem l2400 : (2400 : Int32) = ofN 2400 := rfl
theorem l3195 : (3195 : Int32) = ofN 3195 := rfl
theorem l5920 : (5920 : Int32) = ofN 5920 := rfl
theorem l5995 : (5995 : Int32) = ofN 5995 := rfl
theorem l11990 : (11990 : Int32) = ofN 11990 := rfl
theorem l99999 : (99999 : Int32) = ofN 99999 := rfl
theorem l1000000 : (1000000 : Int32) = ofN 1000000 := rfl
theorem l100000000 : (100000000 : Int32) = ofN 100000000 := rfl
theorem l1000000000 : (1000000000 : Int32) = ofN 1000000000 := rfl
theorem l2000000000 : (2000000000 : Int32) = ofN 2000000000 := rfl
theorem l2147483647 : (2147483647 : Int32) = ofN 2147483647 := rfl
end LITS
/-! guards of such heaps -/
section GUARDS
variable {σ : Hp} {I : IM} {L : LM} {a k t i : Nat} {cs : List Nat} {v x : Int32} {w : Int64} {r : Option Nat}
theorem gI_hw (h : htg σ a ∈ cs) : gI (hw σ I L) (some a) cs k = some (I a k) := if_pos h
theorem gL_hw (h : htg σ a ∈ cs) : gL (hw σ I L) (some a) cs k = some (L a k) := if_pos h
theorem gR_hw (h : htg σ a ∈ cs) : gR (hw σ I L) (some a) cs k = some (hR σ a k) := if_pos h
theorem pI_hw (h : htg σ a ∈ cs) (hl : hlo σ ≤ a) : pI (hw σ I L) (some a) cs k v = some (hw σ (up1 I a (ups (I a) k v)) L) := by
  rw [← wI_hw]; exact if_pos ⟨h, hl⟩
theorem pZ_hw (h : htg σ a ∈ cs) (hl : hlo σ ≤ a) (hv : v = ofN 0 ∨ v = ofN 1) : pZ (hw σ I L) (some a) cs k v = some (hw σ (up1 I a (ups (I a) k v)) L) := by
  rw [← wI_hw]; exact if_pos ⟨⟨h, hl⟩, hv⟩
theorem pL_hw (h : htg σ a ∈ cs) (hl : hlo σ ≤ a) : pL (hw σ I L) (some a) cs k w = some (hw σ I (up1 L a (ups (L a) k w))) := by
  rw [← wL_hw]; exact if_pos ⟨h, hl⟩
theorem pR_hw (h : htg σ a ∈ cs) (hl : hlo σ ≤ a) : pR (hw σ I L) (some a) cs k r = some (hw (wR σ a k r) I L) := if_pos ⟨h, hl⟩
theorem aI_hw (h : htg σ a = 100 + t) (hi : i < hln σ a) (h2 : i < 2147483648) : aI t (hw σ I L) (some a) (ofN i) = some (I a i) := by
  have e := ofN_toN h2
  refine (if_pos ⟨h, Int32.zero_le_ofNat_of_lt h2, by rw [e]; exact hi⟩).trans ?_
  rw [e]; rfl
theorem aL_hw (h : htg σ a = 101) (hi : i < hln σ a) (h2 : i < 2147483648) : aL (hw σ I L) (some a) (ofN i) = some (L a i) := by
  have e := ofN_toN h2
  refine (if_pos ⟨h, Int32.zero_le_ofNat_of_lt h2, by rw [e]; exact hi⟩).trans ?_
  rw [e]; rfl
theorem aR_hw (h : htg σ a = 100 + t) (hi : i < hln σ a) (h2 : i < 2147483648) : aR t (hw σ I L) (some a) (ofN i) = some (hR σ a i) := by
  have e := ofN_toN h2
  refine (if_pos ⟨h, Int32.zero_le_ofNat_of_lt h2, by rw [e]; exact hi⟩).trans ?_
  rw [e]; rfl
theorem aN_hw (h : 100 ≤ htg σ a) (h1 : htg σ a < 116) : aN (hw σ I L) (some a) = some (ofN (hln σ a)) := if_pos ⟨h, h1⟩
theorem sI_hw (h : htg σ a = 100 + t) (hi : i < hln σ a) (h2 : i < 2147483648) (hl : hlo σ ≤ a) : sI t (hw σ I L) (some a) (ofN i) x = some (hw σ (up1 I a (ups (I a) i (vp_nar (ag.getD t .int) x))) L) := by
  have e := ofN_toN h2
  rw [← wI_hw]
  refine (if_pos ⟨h, ⟨Int32.zero_le_ofNat_of_lt h2, by rw [e]; exact hi⟩, hl⟩).trans ?_
  rw [e]
theorem sL_hw (h : htg σ a = 101) (hi : i < hln σ a) (h2 : i < 2147483648) (hl : hlo σ ≤ a) : sL (hw σ I L) (some a) (ofN i) w = some (hw σ I (up1 L a (ups (L a) i w))) := by
  have e := ofN_toN h2
  rw [← wL_hw]
  refine (if_pos ⟨h, ⟨Int32.zero_le_ofNat_of_lt h2, by rw [e]; exact hi⟩, hl⟩).trans ?_
  rw [e]
theorem cT_hw {c : Nat} (h : htg σ a = c) : cT (hw σ I L) (some a) c = some a := if_pos h
theorem rZ_ok (hv : v = ofN 0 ∨ v = ofN 1) : rZ v σ = some (v, σ) := if_pos hv
theorem nar_int : vp_nar .int x = x := rfl
end GUARDS
/-! THE MODEL's OBJECT at m: its arrays at m + 1 .. m + 35; (field, place, array's type, length) -/
def mtab : List (Nat × Nat × Nat × Nat) := [(1, 1, 0, 7), (2, 2, 0, 5995), (3, 3, 1, 100), (4, 4, 0, 11990), (5, 5, 1, 200), (6, 6, 3, 2), (7, 7, 0, 738), (8, 8, 1, 200), (10, 9, 2, 131), (14, 10, 2, 400), (15, 11, 0, 5), (18, 12, 0, 401), (19, 13, 0, 401), (20, 14, 0, 401), (29, 15, 0, 6), (32, 16, 0, 5920), (33, 17, 1, 1600), (34, 18, 0, 5920), (35, 19, 1, 1600), (37, 20, 0, 100), (38, 21, 0, 100), (39, 22, 0, 4), (40, 23, 2, 400), (41, 24, 2, 12), (43, 25, 0, 4), (46, 26, 0, 245), (47, 27, 0, 32), (48, 28, 0, 32), (49, 29, 0, 32), (50, 30, 1, 25), (51, 31, 0, 800), (52, 32, 0, 25), (53, 33, 1, 21), (60, 34, 1, 3), (61, 35, 0, 100)]
def MSh (m : Nat) (σ : Hp) : Prop := hlo σ ≤ m ∧ htg σ m = 7 ∧ ∀ q ∈ mtab, hR σ m q.1 = some (m + q.2.1) ∧ htg σ (m + q.2.1) = 100 + q.2.2.1 ∧ hln σ (m + q.2.1) = q.2.2.2
section MODEL
variable {m : Nat} {σ : Hp} {I : IM} {L : LM} {k i : Nat} {v x : Int32} {w : Int64}
theorem mgI (h : MSh m σ) : gI (hw σ I L) (some m) [7] k = some (I m k) := gI_hw (by rw [h.2.1]; exact List.mem_singleton.mpr rfl)
theorem mgL (h : MSh m σ) : gL (hw σ I L) (some m) [7] k = some (L m k) := gL_hw (by rw [h.2.1]; exact List.mem_singleton.mpr rfl)
theorem mpI (h : MSh m σ) : pI (hw σ I L) (some m) [7] k v = some (hw σ (up1 I m (ups (I m) k v)) L) := pI_hw (by rw [h.2.1]; exact List.mem_singleton.mpr rfl) h.1
theorem mpZ (h : MSh m σ) (hv : v = ofN 0 ∨ v = ofN 1) : pZ (hw σ I L) (some m) [7] k v = some (hw σ (up1 I m (ups (I m) k v)) L) := pZ_hw (by rw [h.2.1]; exact List.mem_singleton.mpr rfl) h.1 hv
theorem mpZ0 (h : MSh m σ) : pZ (hw σ I L) (some m) [7] k (ofN 0) = some (hw σ (up1 I m (ups (I m) k (ofN 0))) L) := mpZ h (Or.inl rfl)
theorem mpZ1 (h : MSh m σ) : pZ (hw σ I L) (some m) [7] k (ofN 1) = some (hw σ (up1 I m (ups (I m) k (ofN 1))) L) := mpZ h (Or.inr rfl)
theorem mpL (h : MSh m σ) : pL (hw σ I L) (some m) [7] k w = some (hw σ I (up1 L m (ups (L m) k w))) := pL_hw (by rw [h.2.1]; exact List.mem_singleton.mpr rfl) h.1
theorem mcT (h : MSh m σ) : cT (hw σ I L) (some m) 7 = some m := cT_hw h.2.1
theorem rZ0 {τ : Hp} : rZ (ofN 0) τ = some (ofN 0, τ) := rZ_ok (Or.inl rfl)
theorem rZ1 {τ : Hp} : rZ (ofN 1) τ = some (ofN 1, τ) := rZ_ok (Or.inr rfl)
theorem mq1 (h : MSh m σ) : hR σ m 1 = some (m + 1) ∧ htg σ (m + 1) = 100 ∧ hln σ (m + 1) = 7 := h.2.2 (1, 1, 0, 7) (List.mem_of_getElem? (i := 0) rfl)
theorem mR1 (h : MSh m σ) : gR (hw σ I L) (some m) [7] 1 = some (some (m + 1)) := (gR_hw (by rw [h.2.1]; exact List.mem_singleton.mpr rfl)).trans (congrArg some (mq1 h).1)
theorem mN1 (h : MSh m σ) : aN (hw σ I L) (some (m + 1)) = some (ofN 7) := by rw [aN_hw (by rw [(mq1 h).2.1]; decide) (by rw [(mq1 h).2.1]; decide), (mq1 h).2.2]
theorem mA1 (h : MSh m σ) (hi : i < 7) : aI 0 (hw σ I L) (some (m + 1)) (ofN i) = some (I (m + 1) i) := aI_hw (mq1 h).2.1 (by rw [(mq1 h).2.2]; exact hi) (Nat.lt_trans hi (by decide))
theorem mS1 (h : MSh m σ) (hi : i < 7) : sI 0 (hw σ I L) (some (m + 1)) (ofN i) x = some (hw σ (up1 I (m + 1) (ups (I (m + 1)) i (x))) L) := sI_hw (mq1 h).2.1 (by rw [(mq1 h).2.2]; exact hi) (Nat.lt_trans hi (by decide)) (Nat.le_trans h.1 (Nat.le_add_right _ _))
theorem mq2 (h : MSh m σ) : hR σ m 2 = some (m + 2) ∧ htg σ (m + 2) = 100 ∧ hln σ (m + 2) = 5995 := h.2.2 (2, 2, 0, 5995) (List.mem_of_getElem? (i := 1) rfl)
theorem mR2 (h : MSh m σ) : gR (hw σ I L) (some m) [7] 2 = some (some (m + 2)) := (gR_hw (by rw [h.2.1]; exact List.mem_singleton.mpr rfl)).trans (congrArg some (mq2 h).1)
theorem mN2 (h : MSh m σ) : aN (hw σ I L) (some (m + 2)) = some (ofN 5995) := by rw [aN_hw (by rw [(mq2 h).2.1]; decide) (by rw [(mq2 h).2.1]; decide), (mq2 h).2.2]
theorem mA2 (h : MSh m σ) (hi : i < 5995) : aI 0 (hw σ I L) (some (m + 2)) (ofN i) = some (I (m + 2) i) := aI_hw (mq2 h).2.1 (by rw [(mq2 h).2.2]; exact hi) (Nat.lt_trans hi (by decide))
theorem mS2 (h : MSh m σ) (hi : i < 5995) : sI 0 (hw σ I L) (some (m + 2)) (ofN i) x = some (hw σ (up1 I (m + 2) (ups (I (m + 2)) i (x))) L) := sI_hw (mq2 h).2.1 (by rw [(mq2 h).2.2]; exact hi) (Nat.lt_trans hi (by decide)) (Nat.le_trans h.1 (Nat.le_add_right _ _))
theorem mq3 (h : MSh m σ) : hR σ m 3 = some (m + 3) ∧ htg σ (m + 3) = 101 ∧ hln σ (m + 3) = 100 := h.2.2 (3, 3, 1, 100) (List.mem_of_getElem? (i := 2) rfl)
theorem mR3 (h : MSh m σ) : gR (hw σ I L) (some m) [7] 3 = some (some (m + 3)) := (gR_hw (by rw [h.2.1]; exact List.mem_singleton.mpr rfl)).trans (congrArg some (mq3 h).1)
theorem mN3 (h : MSh m σ) : aN (hw σ I L) (some (m + 3)) = some (ofN 100) := by rw [aN_hw (by rw [(mq3 h).2.1]; decide) (by rw [(mq3 h).2.1]; decide), (mq3 h).2.2]
theorem mA3 (h : MSh m σ) (hi : i < 100) : aL (hw σ I L) (some (m + 3)) (ofN i) = some (L (m + 3) i) := aL_hw (mq3 h).2.1 (by rw [(mq3 h).2.2]; exact hi) (Nat.lt_trans hi (by decide))
theorem mS3 (h : MSh m σ) (hi : i < 100) : sL (hw σ I L) (some (m + 3)) (ofN i) w = some (hw σ I (up1 L (m + 3) (ups (L (m + 3)) i w))) := sL_hw (mq3 h).2.1 (by rw [(mq3 h).2.2]; exact hi) (Nat.lt_trans hi (by decide)) (Nat.le_trans h.1 (Nat.le_add_right _ _))
theorem mq4 (h : MSh m σ) : hR σ m 4 = some (m + 4) ∧ htg σ (m + 4) = 100 ∧ hln σ (m + 4) = 11990 := h.2.2 (4, 4, 0, 11990) (List.mem_of_getElem? (i := 3) rfl)
theorem mR4 (h : MSh m σ) : gR (hw σ I L) (some m) [7] 4 = some (some (m + 4)) := (gR_hw (by rw [h.2.1]; exact List.mem_singleton.mpr rfl)).trans (congrArg some (mq4 h).1)
theorem mN4 (h : MSh m σ) : aN (hw σ I L) (some (m + 4)) = some (ofN 11990) := by rw [aN_hw (by rw [(mq4 h).2.1]; decide) (by rw [(mq4 h).2.1]; decide), (mq4 h).2.2]
theorem mA4 (h : MSh m σ) (hi : i < 11990) : aI 0 (hw σ I L) (some (m + 4)) (ofN i) = some (I (m + 4) i) := aI_hw (mq4 h).2.1 (by rw [(mq4 h).2.2]; exact hi) (Nat.lt_trans hi (by decide))
theorem mS4 (h : MSh m σ) (hi : i < 11990) : sI 0 (hw σ I L) (some (m + 4)) (ofN i) x = some (hw σ (up1 I (m + 4) (ups (I (m + 4)) i (x))) L) := sI_hw (mq4 h).2.1 (by rw [(mq4 h).2.2]; exact hi) (Nat.lt_trans hi (by decide)) (Nat.le_trans h.1 (Nat.le_add_right _ _))
theorem mq5 (h : MSh m σ) : hR σ m 5 = some (m + 5) ∧ htg σ (m + 5) = 101 ∧ hln σ (m + 5) = 200 := h.2.2 (5, 5, 1, 200) (List.mem_of_getElem? (i := 4) rfl)
theorem mR5 (h : MSh m σ) : gR (hw σ I L) (some m) [7] 5 = some (some (m + 5)) := (gR_hw (by rw [h.2.1]; exact List.mem_singleton.mpr rfl)).trans (congrArg some (mq5 h).1)
theorem mN5 (h : MSh m σ) : aN (hw σ I L) (some (m + 5)) = some (ofN 200) := by rw [aN_hw (by rw [(mq5 h).2.1]; decide) (by rw [(mq5 h).2.1]; decide), (mq5 h).2.2]
theorem mA5 (h : MSh m σ) (hi : i < 200) : aL (hw σ I L) (some (m + 5)) (ofN i) = some (L (m + 5) i) := aL_hw (mq5 h).2.1 (by rw [(mq5 h).2.2]; exact hi) (Nat.lt_trans hi (by decide))
theorem mS5 (h : MSh m σ) (hi : i < 200) : sL (hw σ I L) (some (m + 5)) (ofN i) w = some (hw σ I (up1 L (m + 5) (ups (L (m + 5)) i w))) := sL_hw (mq5 h).2.1 (by rw [(mq5 h).2.2]; exact hi) (Nat.lt_trans hi (by decide)) (Nat.le_trans h.1 (Nat.le_add_right _ _))
theorem mq6 (h : MSh m σ) : hR σ m 6 = some (m + 6) ∧ htg σ (m + 6) = 103 ∧ hln σ (m + 6) = 2 := h.2.2 (6, 6, 3, 2) (List.mem_of_getElem? (i := 5) rfl)
theorem mR6 (h : MSh m σ) : gR (hw σ I L) (some m) [7] 6 = some (some (m + 6)) := (gR_hw (by rw [h.2.1]; exact List.mem_singleton.mpr rfl)).trans (congrArg some (mq6 h).1)
theorem mN6 (h : MSh m σ) : aN (hw σ I L) (some (m + 6)) = some (ofN 2) := by rw [aN_hw (by rw [(mq6 h).2.1]; decide) (by rw [(mq6 h).2.1]; decide), (mq6 h).2.2]
theorem mA6 (h : MSh m σ) (hi : i < 2) : aI 3 (hw σ I L) (some (m + 6)) (ofN i) = some (I (m + 6) i) := aI_hw (mq6 h).2.1 (by rw [(mq6 h).2.2]; exact hi) (Nat.lt_trans hi (by decide))
theorem mS6 (h : MSh m σ) (hi : i < 2) : sI 3 (hw σ I L) (some (m + 6)) (ofN i) x = some (hw σ (up1 I (m + 6) (ups (I (m + 6)) i (vp_nar .boolean x))) L) := sI_hw (mq6 h).2.1 (by rw [(mq6 h).2.2]; exact hi) (Nat.lt_trans hi (by decide)) (Nat.le_trans h.1 (Nat.le_add_right _ _))
theorem mq7 (h : MSh m σ) : hR σ m 7 = some (m + 7) ∧ htg σ (m + 7) = 100 ∧ hln σ (m + 7) = 738 := h.2.2 (7, 7, 0, 738) (List.mem_of_getElem? (i := 6) rfl)
theorem mR7 (h : MSh m σ) : gR (hw σ I L) (some m) [7] 7 = some (some (m + 7)) := (gR_hw (by rw [h.2.1]; exact List.mem_singleton.mpr rfl)).trans (congrArg some (mq7 h).1)
theorem mN7 (h : MSh m σ) : aN (hw σ I L) (some (m + 7)) = some (ofN 738) := by rw [aN_hw (by rw [(mq7 h).2.1]; decide) (by rw [(mq7 h).2.1]; decide), (mq7 h).2.2]
theorem mA7 (h : MSh m σ) (hi : i < 738) : aI 0 (hw σ I L) (some (m + 7)) (ofN i) = some (I (m + 7) i) := aI_hw (mq7 h).2.1 (by rw [(mq7 h).2.2]; exact hi) (Nat.lt_trans hi (by decide))
theorem mS7 (h : MSh m σ) (hi : i < 738) : sI 0 (hw σ I L) (some (m + 7)) (ofN i) x = some (hw σ (up1 I (m + 7) (ups (I (m + 7)) i (x))) L) := sI_hw (mq7 h).2.1 (by rw [(mq7 h).2.2]; exact hi) (Nat.lt_trans hi (by decide)) (Nat.le_trans h.1 (Nat.le_add_right _ _))
theorem mq8 (h : MSh m σ) : hR σ m 8 = some (m + 8) ∧ htg σ (m + 8) = 101 ∧ hln σ (m + 8) = 200 := h.2.2 (8, 8, 1, 200) (List.mem_of_getElem? (i := 7) rfl)
theorem mR8 (h : MSh m σ) : gR (hw σ I L) (some m) [7] 8 = some (some (m + 8)) := (gR_hw (by rw [h.2.1]; exact List.mem_singleton.mpr rfl)).trans (congrArg some (mq8 h).1)
theorem mN8 (h : MSh m σ) : aN (hw σ I L) (some (m + 8)) = some (ofN 200) := by rw [aN_hw (by rw [(mq8 h).2.1]; decide) (by rw [(mq8 h).2.1]; decide), (mq8 h).2.2]
theorem mA8 (h : MSh m σ) (hi : i < 200) : aL (hw σ I L) (some (m + 8)) (ofN i) = some (L (m + 8) i) := aL_hw (mq8 h).2.1 (by rw [(mq8 h).2.2]; exact hi) (Nat.lt_trans hi (by decide))
theorem mS8 (h : MSh m σ) (hi : i < 200) : sL (hw σ I L) (some (m + 8)) (ofN i) w = some (hw σ I (up1 L (m + 8) (ups (L (m + 8)) i w))) := sL_hw (mq8 h).2.1 (by rw [(mq8 h).2.2]; exact hi) (Nat.lt_trans hi (by decide)) (Nat.le_trans h.1 (Nat.le_add_right _ _))
theorem mq10 (h : MSh m σ) : hR σ m 10 = some (m + 9) ∧ htg σ (m + 9) = 102 ∧ hln σ (m + 9) = 131 := h.2.2 (10, 9, 2, 131) (List.mem_of_getElem? (i := 8) rfl)
theorem mR10 (h : MSh m σ) : gR (hw σ I L) (some m) [7] 10 = some (some (m + 9)) := (gR_hw (by rw [h.2.1]; exact List.mem_singleton.mpr rfl)).trans (congrArg some (mq10 h).1)
theorem mN10 (h : MSh m σ) : aN (hw σ I L) (some (m + 9)) = some (ofN 131) := by rw [aN_hw (by rw [(mq10 h).2.1]; decide) (by rw [(mq10 h).2.1]; decide), (mq10 h).2.2]
theorem mA10 (h : MSh m σ) (hi : i < 131) : aI 2 (hw σ I L) (some (m + 9)) (ofN i) = some (I (m + 9) i) := aI_hw (mq10 h).2.1 (by rw [(mq10 h).2.2]; exact hi) (Nat.lt_trans hi (by decide))
theorem mS10 (h : MSh m σ) (hi : i < 131) : sI 2 (hw σ I L) (some (m + 9)) (ofN i) x = some (hw σ (up1 I (m + 9) (ups (I (m + 9)) i (vp_nar .byte x))) L) := sI_hw (mq10 h).2.1 (by rw [(mq10 h).2.2]; exact hi) (Nat.lt_trans hi (by decide)) (Nat.le_trans h.1 (Nat.le_add_right _ _))
theorem mq14 (h : MSh m σ) : hR σ m 14 = some (m + 10) ∧ htg σ (m + 10) = 102 ∧ hln σ (m + 10) = 400 := h.2.2 (14, 10, 2, 400) (List.mem_of_getElem? (i := 9) rfl)
theorem mR14 (h : MSh m σ) : gR (hw σ I L) (some m) [7] 14 = some (some (m + 10)) := (gR_hw (by rw [h.2.1]; exact List.mem_singleton.mpr rfl)).trans (congrArg some (mq14 h).1)
theorem mN14 (h : MSh m σ) : aN (hw σ I L) (some (m + 10)) = some (ofN 400) := by rw [aN_hw (by rw [(mq14 h).2.1]; decide) (by rw [(mq14 h).2.1]; decide), (mq14 h).2.2]
theorem mA14 (h : MSh m σ) (hi : i < 400) : aI 2 (hw σ I L) (some (m + 10)) (ofN i) = some (I (m + 10) i) := aI_hw (mq14 h).2.1 (by rw [(mq14 h).2.2]; exact hi) (Nat.lt_trans hi (by decide))
theorem mS14 (h : MSh m σ) (hi : i < 400) : sI 2 (hw σ I L) (some (m + 10)) (ofN i) x = some (hw σ (up1 I (m + 10) (ups (I (m + 10)) i (vp_nar .byte x))) L) := sI_hw (mq14 h).2.1 (by rw [(mq14 h).2.2]; exact hi) (Nat.lt_trans hi (by decide)) (Nat.le_trans h.1 (Nat.le_add_right _ _))
theorem mq15 (h : MSh m σ) : hR σ m 15 = some (m + 11) ∧ htg σ (m + 11) = 100 ∧ hln σ (m + 11) = 5 := h.2.2 (15, 11, 0, 5) (List.mem_of_getElem? (i := 10) rfl)
theorem mR15 (h : MSh m σ) : gR (hw σ I L) (some m) [7] 15 = some (some (m + 11)) := (gR_hw (by rw [h.2.1]; exact List.mem_singleton.mpr rfl)).trans (congrArg some (mq15 h).1)
theorem mN15 (h : MSh m σ) : aN (hw σ I L) (some (m + 11)) = some (ofN 5) := by rw [aN_hw (by rw [(mq15 h).2.1]; decide) (by rw [(mq15 h).2.1]; decide), (mq15 h).2.2]
theorem mA15 (h : MSh m σ) (hi : i < 5) : aI 0 (hw σ I L) (some (m + 11)) (ofN i) = some (I (m + 11) i) := aI_hw (mq15 h).2.1 (by rw [(mq15 h).2.2]; exact hi) (Nat.lt_trans hi (by decide))
theorem mS15 (h : MSh m σ) (hi : i < 5) : sI 0 (hw σ I L) (some (m + 11)) (ofN i) x = some (hw σ (up1 I (m + 11) (ups (I (m + 11)) i (x))) L) := sI_hw (mq15 h).2.1 (by rw [(mq15 h).2.2]; exact hi) (Nat.lt_trans hi (by decide)) (Nat.le_trans h.1 (Nat.le_add_right _ _))
theorem mq18 (h : MSh m σ) : hR σ m 18 = some (m + 12) ∧ htg σ (m + 12) = 100 ∧ hln σ (m + 12) = 401 := h.2.2 (18, 12, 0, 401) (List.mem_of_getElem? (i := 11) rfl)
theorem mR18 (h : MSh m σ) : gR (hw σ I L) (some m) [7] 18 = some (some (m + 12)) := (gR_hw (by rw [h.2.1]; exact List.mem_singleton.mpr rfl)).trans (congrArg some (mq18 h).1)
theorem mN18 (h : MSh m σ) : aN (hw σ I L) (some (m + 12)) = some (ofN 401) := by rw [aN_hw (by rw [(mq18 h).2.1]; decide) (by rw [(mq18 h).2.1]; decide), (mq18 h).2.2]
theorem mA18 (h : MSh m σ) (hi : i < 401) : aI 0 (hw σ I L) (some (m + 12)) (ofN i) = some (I (m + 12) i) := aI_hw (mq18 h).2.1 (by rw [(mq18 h).2.2]; exact hi) (Nat.lt_trans hi (by decide))
theorem mS18 (h : MSh m σ) (hi : i < 401) : sI 0 (hw σ I L) (some (m + 12)) (ofN i) x = some (hw σ (up1 I (m + 12) (ups (I (m + 12)) i (x))) L) := sI_hw (mq18 h).2.1 (by rw [(mq18 h).2.2]; exact hi) (Nat.lt_trans hi (by decide)) (Nat.le_trans h.1 (Nat.le_add_right _ _))
theorem mq19 (h : MSh m σ) : hR σ m 19 = some (m + 13) ∧ htg σ (m + 13) = 100 ∧ hln σ (m + 13) = 401 := h.2.2 (19, 13, 0, 401) (List.mem_of_getElem? (i := 12) rfl)
theorem mR19 (h : MSh m σ) : gR (hw σ I L) (some m) [7] 19 = some (some (m + 13)) := (gR_hw (by rw [h.2.1]; exact List.mem_singleton.mpr rfl)).trans (congrArg some (mq19 h).1)
theorem mN19 (h : MSh m σ) : aN (hw σ I L) (some (m + 13)) = some (ofN 401) := by rw [aN_hw (by rw [(mq19 h).2.1]; decide) (by rw [(mq19 h).2.1]; decide), (mq19 h).2.2]
theorem mA19 (h : MSh m σ) (hi : i < 401) : aI 0 (hw σ I L) (some (m + 13)) (ofN i) = some (I (m + 13) i) := aI_hw (mq19 h).2.1 (by rw [(mq19 h).2.2]; exact hi) (Nat.lt_trans hi (by decide))
theorem mS19 (h : MSh m σ) (hi : i < 401) : sI 0 (hw σ I L) (some (m + 13)) (ofN i) x = some (hw σ (up1 I (m + 13) (ups (I (m + 13)) i (x))) L) := sI_hw (mq19 h).2.1 (by rw [(mq19 h).2.2]; exact hi) (Nat.lt_trans hi (by decide)) (Nat.le_trans h.1 (Nat.le_add_right _ _))
theorem mq20 (h : MSh m σ) : hR σ m 20 = some (m + 14) ∧ htg σ (m + 14) = 100 ∧ hln σ (m + 14) = 401 := h.2.2 (20, 14, 0, 401) (List.mem_of_getElem? (i := 13) rfl)
theorem mR20 (h : MSh m σ) : gR (hw σ I L) (some m) [7] 20 = some (some (m + 14)) := (gR_hw (by rw [h.2.1]; exact List.mem_singleton.mpr rfl)).trans (congrArg some (mq20 h).1)
theorem mN20 (h : MSh m σ) : aN (hw σ I L) (some (m + 14)) = some (ofN 401) := by rw [aN_hw (by rw [(mq20 h).2.1]; decide) (by rw [(mq20 h).2.1]; decide), (mq20 h).2.2]
theorem mA20 (h : MSh m σ) (hi : i < 401) : aI 0 (hw σ I L) (some (m + 14)) (ofN i) = some (I (m + 14) i) := aI_hw (mq20 h).2.1 (by rw [(mq20 h).2.2]; exact hi) (Nat.lt_trans hi (by decide))
theorem mS20 (h : MSh m σ) (hi : i < 401) : sI 0 (hw σ I L) (some (m + 14)) (ofN i) x = some (hw σ (up1 I (m + 14) (ups (I (m + 14)) i (x))) L) := sI_hw (mq20 h).2.1 (by rw [(mq20 h).2.2]; exact hi) (Nat.lt_trans hi (by decide)) (Nat.le_trans h.1 (Nat.le_add_right _ _))
theorem mq29 (h : MSh m σ) : hR σ m 29 = some (m + 15) ∧ htg σ (m + 15) = 100 ∧ hln σ (m + 15) = 6 := h.2.2 (29, 15, 0, 6) (List.mem_of_getElem? (i := 14) rfl)
theorem mR29 (h : MSh m σ) : gR (hw σ I L) (some m) [7] 29 = some (some (m + 15)) := (gR_hw (by rw [h.2.1]; exact List.mem_singleton.mpr rfl)).trans (congrArg some (mq29 h).1)
theorem mN29 (h : MSh m σ) : aN (hw σ I L) (some (m + 15)) = some (ofN 6) := by rw [aN_hw (by rw [(mq29 h).2.1]; decide) (by rw [(mq29 h).2.1]; decide), (mq29 h).2.2]
theorem mA29 (h : MSh m σ) (hi : i < 6) : aI 0 (hw σ I L) (some (m + 15)) (ofN i) = some (I (m + 15) i) := aI_hw (mq29 h).2.1 (by rw [(mq29 h).2.2]; exact hi) (Nat.lt_trans hi (by decide))
theorem mS29 (h : MSh m σ) (hi : i < 6) : sI 0 (hw σ I L) (some (m + 15)) (ofN i) x = some (hw σ (up1 I (m + 15) (ups (I (m + 15)) i (x))) L) := sI_hw (mq29 h).2.1 (by rw [(mq29 h).2.2]; exact hi) (Nat.lt_trans hi (by decide)) (Nat.le_trans h.1 (Nat.le_add_right _ _))
theorem mq32 (h : MSh m σ) : hR σ m 32 = some (m + 16) ∧ htg σ (m + 16) = 100 ∧ hln σ (m + 16) = 5920 := h.2.2 (32, 16, 0, 5920) (List.mem_of_getElem? (i := 15) rfl)
theorem mR32 (h : MSh m σ) : gR (hw σ I L) (some m) [7] 32 = some (some (m + 16)) := (gR_hw (by rw [h.2.1]; exact List.mem_singleton.mpr rfl)).trans (congrArg some (mq32 h).1)
theorem mN32 (h : MSh m σ) : aN (hw σ I L) (some (m + 16)) = some (ofN 5920) := by rw [aN_hw (by rw [(mq32 h).2.1]; decide) (by rw [(mq32 h).2.1]; decide), (mq32 h).2.2]
theorem mA32 (h : MSh m σ) (hi : i < 5920) : aI 0 (hw σ I L) (some (m + 16)) (ofN i) = some (I (m + 16) i) := aI_hw (mq32 h).2.1 (by rw [(mq32 h).2.2]; exact hi) (Nat.lt_trans hi (by decide))
theorem mS32 (h : MSh m σ) (hi : i < 5920) : sI 0 (hw σ I L) (some (m + 16)) (ofN i) x = some (hw σ (up1 I (m + 16) (ups (I (m + 16)) i (x))) L) := sI_hw (mq32 h).2.1 (by rw [(mq32 h).2.2]; exact hi) (Nat.lt_trans hi (by decide)) (Nat.le_trans h.1 (Nat.le_add_right _ _))
theorem mq33 (h : MSh m σ) : hR σ m 33 = some (m + 17) ∧ htg σ (m + 17) = 101 ∧ hln σ (m + 17) = 1600 := h.2.2 (33, 17, 1, 1600) (List.mem_of_getElem? (i := 16) rfl)
theorem mR33 (h : MSh m σ) : gR (hw σ I L) (some m) [7] 33 = some (some (m + 17)) := (gR_hw (by rw [h.2.1]; exact List.mem_singleton.mpr rfl)).trans (congrArg some (mq33 h).1)
theorem mN33 (h : MSh m σ) : aN (hw σ I L) (some (m + 17)) = some (ofN 1600) := by rw [aN_hw (by rw [(mq33 h).2.1]; decide) (by rw [(mq33 h).2.1]; decide), (mq33 h).2.2]
theorem mA33 (h : MSh m σ) (hi : i < 1600) : aL (hw σ I L) (some (m + 17)) (ofN i) = some (L (m + 17) i) := aL_hw (mq33 h).2.1 (by rw [(mq33 h).2.2]; exact hi) (Nat.lt_trans hi (by decide))
theorem mS33 (h : MSh m σ) (hi : i < 1600) : sL (hw σ I L) (some (m + 17)) (ofN i) w = some (hw σ I (up1 L (m + 17) (ups (L (m + 17)) i w))) := sL_hw (mq33 h).2.1 (by rw [(mq33 h).2.2]; exact hi) (Nat.lt_trans hi (by decide)) (Nat.le_trans h.1 (Nat.le_add_right _ _))
theorem mq34 (h : MSh m σ) : hR σ m 34 = some (m + 18) ∧ htg σ (m + 18) = 100 ∧ hln σ (m + 18) = 5920 := h.2.2 (34, 18, 0, 5920) (List.mem_of_getElem? (i := 17) rfl)
theorem mR34 (h : MSh m σ) : gR (hw σ I L) (some m) [7] 34 = some (some (m + 18)) := (gR_hw (by rw [h.2.1]; exact List.mem_singleton.mpr rfl)).trans (congrArg some (mq34 h).1)
theorem mN34 (h : MSh m σ) : aN (hw σ I L) (some (m + 18)) = some (ofN 5920) := by rw [aN_hw (by rw [(mq34 h).2.1]; decide) (by rw [(mq34 h).2.1]; decide), (mq34 h).2.2]
theorem mA34 (h : MSh m σ) (hi : i < 5920) : aI 0 (hw σ I L) (some (m + 18)) (ofN i) = some (I (m + 18) i) := aI_hw (mq34 h).2.1 (by rw [(mq34 h).2.2]; exact hi) (Nat.lt_trans hi (by decide))
theorem mS34 (h : MSh m σ) (hi : i < 5920) : sI 0 (hw σ I L) (some (m + 18)) (ofN i) x = some (hw σ (up1 I (m + 18) (ups (I (m + 18)) i (x))) L) := sI_hw (mq34 h).2.1 (by rw [(mq34 h).2.2]; exact hi) (Nat.lt_trans hi (by decide)) (Nat.le_trans h.1 (Nat.le_add_right _ _))
theorem mq35 (h : MSh m σ) : hR σ m 35 = some (m + 19) ∧ htg σ (m + 19) = 101 ∧ hln σ (m + 19) = 1600 := h.2.2 (35, 19, 1, 1600) (List.mem_of_getElem? (i := 18) rfl)
theorem mR35 (h : MSh m σ) : gR (hw σ I L) (some m) [7] 35 = some (some (m + 19)) := (gR_hw (by rw [h.2.1]; exact List.mem_singleton.mpr rfl)).trans (congrArg some (mq35 h).1)
theorem mN35 (h : MSh m σ) : aN (hw σ I L) (some (m + 19)) = some (ofN 1600) := by rw [aN_hw (by rw [(mq35 h).2.1]; decide) (by rw [(mq35 h).2.1]; decide), (mq35 h).2.2]
theorem mA35 (h : MSh m σ) (hi : i < 1600) : aL (hw σ I L) (some (m + 19)) (ofN i) = some (L (m + 19) i) := aL_hw (mq35 h).2.1 (by rw [(mq35 h).2.2]; exact hi) (Nat.lt_trans hi (by decide))
theorem mS35 (h : MSh m σ) (hi : i < 1600) : sL (hw σ I L) (some (m + 19)) (ofN i) w = some (hw σ I (up1 L (m + 19) (ups (L (m + 19)) i w))) := sL_hw (mq35 h).2.1 (by rw [(mq35 h).2.2]; exact hi) (Nat.lt_trans hi (by decide)) (Nat.le_trans h.1 (Nat.le_add_right _ _))
theorem mq37 (h : MSh m σ) : hR σ m 37 = some (m + 20) ∧ htg σ (m + 20) = 100 ∧ hln σ (m + 20) = 100 := h.2.2 (37, 20, 0, 100) (List.mem_of_getElem? (i := 19) rfl)
theorem mR37 (h : MSh m σ) : gR (hw σ I L) (some m) [7] 37 = some (some (m + 20)) := (gR_hw (by rw [h.2.1]; exact List.mem_singleton.mpr rfl)).trans (congrArg some (mq37 h).1)
theorem mN37 (h : MSh m σ) : aN (hw σ I L) (some (m + 20)) = some (ofN 100) := by rw [aN_hw (by rw [(mq37 h).2.1]; decide) (by rw [(mq37 h).2.1]; decide), (mq37 h).2.2]
theorem mA37 (h : MSh m σ) (hi : i < 100) : aI 0 (hw σ I L) (some (m + 20)) (ofN i) = some (I (m + 20) i) := aI_hw (mq37 h).2.1 (by rw [(mq37 h).2.2]; exact hi) (Nat.lt_trans hi (by decide))
theorem mS37 (h : MSh m σ) (hi : i < 100) : sI 0 (hw σ I L) (some (m + 20)) (ofN i) x = some (hw σ (up1 I (m + 20) (ups (I (m + 20)) i (x))) L) := sI_hw (mq37 h).2.1 (by rw [(mq37 h).2.2]; exact hi) (Nat.lt_trans hi (by decide)) (Nat.le_trans h.1 (Nat.le_add_right _ _))
theorem mq38 (h : MSh m σ) : hR σ m 38 = some (m + 21) ∧ htg σ (m + 21) = 100 ∧ hln σ (m + 21) = 100 := h.2.2 (38, 21, 0, 100) (List.mem_of_getElem? (i := 20) rfl)
theorem mR38 (h : MSh m σ) : gR (hw σ I L) (some m) [7] 38 = some (some (m + 21)) := (gR_hw (by rw [h.2.1]; exact List.mem_singleton.mpr rfl)).trans (congrArg some (mq38 h).1)
theorem mN38 (h : MSh m σ) : aN (hw σ I L) (some (m + 21)) = some (ofN 100) := by rw [aN_hw (by rw [(mq38 h).2.1]; decide) (by rw [(mq38 h).2.1]; decide), (mq38 h).2.2]
theorem mA38 (h : MSh m σ) (hi : i < 100) : aI 0 (hw σ I L) (some (m + 21)) (ofN i) = some (I (m + 21) i) := aI_hw (mq38 h).2.1 (by rw [(mq38 h).2.2]; exact hi) (Nat.lt_trans hi (by decide))
theorem mS38 (h : MSh m σ) (hi : i < 100) : sI 0 (hw σ I L) (some (m + 21)) (ofN i) x = some (hw σ (up1 I (m + 21) (ups (I (m + 21)) i (x))) L) := sI_hw (mq38 h).2.1 (by rw [(mq38 h).2.2]; exact hi) (Nat.lt_trans hi (by decide)) (Nat.le_trans h.1 (Nat.le_add_right _ _))
theorem mq39 (h : MSh m σ) : hR σ m 39 = some (m + 22) ∧ htg σ (m + 22) = 100 ∧ hln σ (m + 22) = 4 := h.2.2 (39, 22, 0, 4) (List.mem_of_getElem? (i := 21) rfl)
theorem mR39 (h : MSh m σ) : gR (hw σ I L) (some m) [7] 39 = some (some (m + 22)) := (gR_hw (by rw [h.2.1]; exact List.mem_singleton.mpr rfl)).trans (congrArg some (mq39 h).1)
theorem mN39 (h : MSh m σ) : aN (hw σ I L) (some (m + 22)) = some (ofN 4) := by rw [aN_hw (by rw [(mq39 h).2.1]; decide) (by rw [(mq39 h).2.1]; decide), (mq39 h).2.2]
theorem mA39 (h : MSh m σ) (hi : i < 4) : aI 0 (hw σ I L) (some (m + 22)) (ofN i) = some (I (m + 22) i) := aI_hw (mq39 h).2.1 (by rw [(mq39 h).2.2]; exact hi) (Nat.lt_trans hi (by decide))
theorem mS39 (h : MSh m σ) (hi : i < 4) : sI 0 (hw σ I L) (some (m + 22)) (ofN i) x = some (hw σ (up1 I (m + 22) (ups (I (m + 22)) i (x))) L) := sI_hw (mq39 h).2.1 (by rw [(mq39 h).2.2]; exact hi) (Nat.lt_trans hi (by decide)) (Nat.le_trans h.1 (Nat.le_add_right _ _))
theorem mq40 (h : MSh m σ) : hR σ m 40 = some (m + 23) ∧ htg σ (m + 23) = 102 ∧ hln σ (m + 23) = 400 := h.2.2 (40, 23, 2, 400) (List.mem_of_getElem? (i := 22) rfl)
theorem mR40 (h : MSh m σ) : gR (hw σ I L) (some m) [7] 40 = some (some (m + 23)) := (gR_hw (by rw [h.2.1]; exact List.mem_singleton.mpr rfl)).trans (congrArg some (mq40 h).1)
theorem mN40 (h : MSh m σ) : aN (hw σ I L) (some (m + 23)) = some (ofN 400) := by rw [aN_hw (by rw [(mq40 h).2.1]; decide) (by rw [(mq40 h).2.1]; decide), (mq40 h).2.2]
theorem mA40 (h : MSh m σ) (hi : i < 400) : aI 2 (hw σ I L) (some (m + 23)) (ofN i) = some (I (m + 23) i) := aI_hw (mq40 h).2.1 (by rw [(mq40 h).2.2]; exact hi) (Nat.lt_trans hi (by decide))
theorem mS40 (h : MSh m σ) (hi : i < 400) : sI 2 (hw σ I L) (some (m + 23)) (ofN i) x = some (hw σ (up1 I (m + 23) (ups (I (m + 23)) i (vp_nar .byte x))) L) := sI_hw (mq40 h).2.1 (by rw [(mq40 h).2.2]; exact hi) (Nat.lt_trans hi (by decide)) (Nat.le_trans h.1 (Nat.le_add_right _ _))
theorem mq41 (h : MSh m σ) : hR σ m 41 = some (m + 24) ∧ htg σ (m + 24) = 102 ∧ hln σ (m + 24) = 12 := h.2.2 (41, 24, 2, 12) (List.mem_of_getElem? (i := 23) rfl)
theorem mR41 (h : MSh m σ) : gR (hw σ I L) (some m) [7] 41 = some (some (m + 24)) := (gR_hw (by rw [h.2.1]; exact List.mem_singleton.mpr rfl)).trans (congrArg some (mq41 h).1)
theorem mN41 (h : MSh m σ) : aN (hw σ I L) (some (m + 24)) = some (ofN 12) := by rw [aN_hw (by rw [(mq41 h).2.1]; decide) (by rw [(mq41 h).2.1]; decide), (mq41 h).2.2]
theorem mA41 (h : MSh m σ) (hi : i < 12) : aI 2 (hw σ I L) (some (m + 24)) (ofN i) = some (I (m + 24) i) := aI_hw (mq41 h).2.1 (by rw [(mq41 h).2.2]; exact hi) (Nat.lt_trans hi (by decide))
theorem mS41 (h : MSh m σ) (hi : i < 12) : sI 2 (hw σ I L) (some (m + 24)) (ofN i) x = some (hw σ (up1 I (m + 24) (ups (I (m + 24)) i (vp_nar .byte x))) L) := sI_hw (mq41 h).2.1 (by rw [(mq41 h).2.2]; exact hi) (Nat.lt_trans hi (by decide)) (Nat.le_trans h.1 (Nat.le_add_right _ _))
theorem mq43 (h : MSh m σ) : hR σ m 43 = some (m + 25) ∧ htg σ (m + 25) = 100 ∧ hln σ (m + 25) = 4 := h.2.2 (43, 25, 0, 4) (List.mem_of_getElem? (i := 24) rfl)
theorem mR43 (h : MSh m σ) : gR (hw σ I L) (some m) [7] 43 = some (some (m + 25)) := (gR_hw (by rw [h.2.1]; exact List.mem_singleton.mpr rfl)).trans (congrArg some (mq43 h).1)
theorem mN43 (h : MSh m σ) : aN (hw σ I L) (some (m + 25)) = some (ofN 4) := by rw [aN_hw (by rw [(mq43 h).2.1]; decide) (by rw [(mq43 h).2.1]; decide), (mq43 h).2.2]
theorem mA43 (h : MSh m σ) (hi : i < 4) : aI 0 (hw σ I L) (some (m + 25)) (ofN i) = some (I (m + 25) i) := aI_hw (mq43 h).2.1 (by rw [(mq43 h).2.2]; exact hi) (Nat.lt_trans hi (by decide))
theorem mS43 (h : MSh m σ) (hi : i < 4) : sI 0 (hw σ I L) (some (m + 25)) (ofN i) x = some (hw σ (up1 I (m + 25) (ups (I (m + 25)) i (x))) L) := sI_hw (mq43 h).2.1 (by rw [(mq43 h).2.2]; exact hi) (Nat.lt_trans hi (by decide)) (Nat.le_trans h.1 (Nat.le_add_right _ _))
theorem mq46 (h : MSh m σ) : hR σ m 46 = some (m + 26) ∧ htg σ (m + 26) = 100 ∧ hln σ (m + 26) = 245 := h.2.2 (46, 26, 0, 245) (List.mem_of_getElem? (i := 25) rfl)
theorem mR46 (h : MSh m σ) : gR (hw σ I L) (some m) [7] 46 = some (some (m + 26)) := (gR_hw (by rw [h.2.1]; exact List.mem_singleton.mpr rfl)).trans (congrArg some (mq46 h).1)
theorem mN46 (h : MSh m σ) : aN (hw σ I L) (some (m + 26)) = some (ofN 245) := by rw [aN_hw (by rw [(mq46 h).2.1]; decide) (by rw [(mq46 h).2.1]; decide), (mq46 h).2.2]
theorem mA46 (h : MSh m σ) (hi : i < 245) : aI 0 (hw σ I L) (some (m + 26)) (ofN i) = some (I (m + 26) i) := aI_hw (mq46 h).2.1 (by rw [(mq46 h).2.2]; exact hi) (Nat.lt_trans hi (by decide))
theorem mS46 (h : MSh m σ) (hi : i < 245) : sI 0 (hw σ I L) (some (m + 26)) (ofN i) x = some (hw σ (up1 I (m + 26) (ups (I (m + 26)) i (x))) L) := sI_hw (mq46 h).2.1 (by rw [(mq46 h).2.2]; exact hi) (Nat.lt_trans hi (by decide)) (Nat.le_trans h.1 (Nat.le_add_right _ _))
theorem mq47 (h : MSh m σ) : hR σ m 47 = some (m + 27) ∧ htg σ (m + 27) = 100 ∧ hln σ (m + 27) = 32 := h.2.2 (47, 27, 0, 32) (List.mem_of_getElem? (i := 26) rfl)
theorem mR47 (h : MSh m σ) : gR (hw σ I L) (some m) [7] 47 = some (some (m + 27)) := (gR_hw (by rw [h.2.1]; exact List.mem_singleton.mpr rfl)).trans (congrArg some (mq47 h).1)
theorem mN47 (h : MSh m σ) : aN (hw σ I L) (some (m + 27)) = some (ofN 32) := by rw [aN_hw (by rw [(mq47 h).2.1]; decide) (by rw [(mq47 h).2.1]; decide), (mq47 h).2.2]
theorem mA47 (h : MSh m σ) (hi : i < 32) : aI 0 (hw σ I L) (some (m + 27)) (ofN i) = some (I (m + 27) i) := aI_hw (mq47 h).2.1 (by rw [(mq47 h).2.2]; exact hi) (Nat.lt_trans hi (by decide))
theorem mS47 (h : MSh m σ) (hi : i < 32) : sI 0 (hw σ I L) (some (m + 27)) (ofN i) x = some (hw σ (up1 I (m + 27) (ups (I (m + 27)) i (x))) L) := sI_hw (mq47 h).2.1 (by rw [(mq47 h).2.2]; exact hi) (Nat.lt_trans hi (by decide)) (Nat.le_trans h.1 (Nat.le_add_right _ _))
theorem mq48 (h : MSh m σ) : hR σ m 48 = some (m + 28) ∧ htg σ (m + 28) = 100 ∧ hln σ (m + 28) = 32 := h.2.2 (48, 28, 0, 32) (List.mem_of_getElem? (i := 27) rfl)
theorem mR48 (h : MSh m σ) : gR (hw σ I L) (some m) [7] 48 = some (some (m + 28)) := (gR_hw (by rw [h.2.1]; exact List.mem_singleton.mpr rfl)).trans (congrArg some (mq48 h).1)
theorem mN48 (h : MSh m σ) : aN (hw σ I L) (some (m + 28)) = some (ofN 32) := by rw [aN_hw (by rw [(mq48 h).2.1]; decide) (by rw [(mq48 h).2.1]; decide), (mq48 h).2.2]
theorem mA48 (h : MSh m σ) (hi : i < 32) : aI 0 (hw σ I L) (some (m + 28)) (ofN i) = some (I (m + 28) i) := aI_hw (mq48 h).2.1 (by rw [(mq48 h).2.2]; exact hi) (Nat.lt_trans hi (by decide))
theorem mS48 (h : MSh m σ) (hi : i < 32) : sI 0 (hw σ I L) (some (m + 28)) (ofN i) x = some (hw σ (up1 I (m + 28) (ups (I (m + 28)) i (x))) L) := sI_hw (mq48 h).2.1 (by rw [(mq48 h).2.2]; exact hi) (Nat.lt_trans hi (by decide)) (Nat.le_trans h.1 (Nat.le_add_right _ _))
theorem mq49 (h : MSh m σ) : hR σ m 49 = some (m + 29) ∧ htg σ (m + 29) = 100 ∧ hln σ (m + 29) = 32 := h.2.2 (49, 29, 0, 32) (List.mem_of_getElem? (i := 28) rfl)
theorem mR49 (h : MSh m σ) : gR (hw σ I L) (some m) [7] 49 = some (some (m + 29)) := (gR_hw (by rw [h.2.1]; exact List.mem_singleton.mpr rfl)).trans (congrArg some (mq49 h).1)
theorem mN49 (h : MSh m σ) : aN (hw σ I L) (some (m + 29)) = some (ofN 32) := by rw [aN_hw (by rw [(mq49 h).2.1]; decide) (by rw [(mq49 h).2.1]; decide), (mq49 h).2.2]
theorem mA49 (h : MSh m σ) (hi : i < 32) : aI 0 (hw σ I L) (some (m + 29)) (ofN i) = some (I (m + 29) i) := aI_hw (mq49 h).2.1 (by rw [(mq49 h).2.2]; exact hi) (Nat.lt_trans hi (by decide))
theorem mS49 (h : MSh m σ) (hi : i < 32) : sI 0 (hw σ I L) (some (m + 29)) (ofN i) x = some (hw σ (up1 I (m + 29) (ups (I (m + 29)) i (x))) L) := sI_hw (mq49 h).2.1 (by rw [(mq49 h).2.2]; exact hi) (Nat.lt_trans hi (by decide)) (Nat.le_trans h.1 (Nat.le_add_right _ _))
theorem mq50 (h : MSh m σ) : hR σ m 50 = some (m + 30) ∧ htg σ (m + 30) = 101 ∧ hln σ (m + 30) = 25 := h.2.2 (50, 30, 1, 25) (List.mem_of_getElem? (i := 29) rfl)
theorem mR50 (h : MSh m σ) : gR (hw σ I L) (some m) [7] 50 = some (some (m + 30)) := (gR_hw (by rw [h.2.1]; exact List.mem_singleton.mpr rfl)).trans (congrArg some (mq50 h).1)
theorem mN50 (h : MSh m σ) : aN (hw σ I L) (some (m + 30)) = some (ofN 25) := by rw [aN_hw (by rw [(mq50 h).2.1]; decide) (by rw [(mq50 h).2.1]; decide), (mq50 h).2.2]
theorem mA50 (h : MSh m σ) (hi : i < 25) : aL (hw σ I L) (some (m + 30)) (ofN i) = some (L (m + 30) i) := aL_hw (mq50 h).2.1 (by rw [(mq50 h).2.2]; exact hi) (Nat.lt_trans hi (by decide))
theorem mS50 (h : MSh m σ) (hi : i < 25) : sL (hw σ I L) (some (m + 30)) (ofN i) w = some (hw σ I (up1 L (m + 30) (ups (L (m + 30)) i w))) := sL_hw (mq50 h).2.1 (by rw [(mq50 h).2.2]; exact hi) (Nat.lt_trans hi (by decide)) (Nat.le_trans h.1 (Nat.le_add_right _ _))
theorem mq51 (h : MSh m σ) : hR σ m 51 = some (m + 31) ∧ htg σ (m + 31) = 100 ∧ hln σ (m + 31) = 800 := h.2.2 (51, 31, 0, 800) (List.mem_of_getElem? (i := 30) rfl)
theorem mR51 (h : MSh m σ) : gR (hw σ I L) (some m) [7] 51 = some (some (m + 31)) := (gR_hw (by rw [h.2.1]; exact List.mem_singleton.mpr rfl)).trans (congrArg some (mq51 h).1)
theorem mN51 (h : MSh m σ) : aN (hw σ I L) (some (m + 31)) = some (ofN 800) := by rw [aN_hw (by rw [(mq51 h).2.1]; decide) (by rw [(mq51 h).2.1]; decide), (mq51 h).2.2]
theorem mA51 (h : MSh m σ) (hi : i < 800) : aI 0 (hw σ I L) (some (m + 31)) (ofN i) = some (I (m + 31) i) := aI_hw (mq51 h).2.1 (by rw [(mq51 h).2.2]; exact hi) (Nat.lt_trans hi (by decide))
theorem mS51 (h : MSh m σ) (hi : i < 800) : sI 0 (hw σ I L) (some (m + 31)) (ofN i) x = some (hw σ (up1 I (m + 31) (ups (I (m + 31)) i (x))) L) := sI_hw (mq51 h).2.1 (by rw [(mq51 h).2.2]; exact hi) (Nat.lt_trans hi (by decide)) (Nat.le_trans h.1 (Nat.le_add_right _ _))
theorem mq52 (h : MSh m σ) : hR σ m 52 = some (m + 32) ∧ htg σ (m + 32) = 100 ∧ hln σ (m + 32) = 25 := h.2.2 (52, 32, 0, 25) (List.mem_of_getElem? (i := 31) rfl)
theorem mR52 (h : MSh m σ) : gR (hw σ I L) (some m) [7] 52 = some (some (m + 32)) := (gR_hw (by rw [h.2.1]; exact List.mem_singleton.mpr rfl)).trans (congrArg some (mq52 h).1)
theorem mN52 (h : MSh m σ) : aN (hw σ I L) (some (m + 32)) = some (ofN 25) := by rw [aN_hw (by rw [(mq52 h).2.1]; decide) (by rw [(mq52 h).2.1]; decide), (mq52 h).2.2]
theorem mA52 (h : MSh m σ) (hi : i < 25) : aI 0 (hw σ I L) (some (m + 32)) (ofN i) = some (I (m + 32) i) := aI_hw (mq52 h).2.1 (by rw [(mq52 h).2.2]; exact hi) (Nat.lt_trans hi (by decide))
theorem mS52 (h : MSh m σ) (hi : i < 25) : sI 0 (hw σ I L) (some (m + 32)) (ofN i) x = some (hw σ (up1 I (m + 32) (ups (I (m + 32)) i (x))) L) := sI_hw (mq52 h).2.1 (by rw [(mq52 h).2.2]; exact hi) (Nat.lt_trans hi (by decide)) (Nat.le_trans h.1 (Nat.le_add_right _ _))
theorem mq53 (h : MSh m σ) : hR σ m 53 = some (m + 33) ∧ htg σ (m + 33) = 101 ∧ hln σ (m + 33) = 21 := h.2.2 (53, 33, 1, 21) (List.mem_of_getElem? (i := 32) rfl)
theorem mR53 (h : MSh m σ) : gR (hw σ I L) (some m) [7] 53 = some (some (m + 33)) := (gR_hw (by rw [h.2.1]; exact List.mem_singleton.mpr rfl)).trans (congrArg some (mq53 h).1)
theorem mN53 (h : MSh m σ) : aN (hw σ I L) (some (m + 33)) = some (ofN 21) := by rw [aN_hw (by rw [(mq53 h).2.1]; decide) (by rw [(mq53 h).2.1]; decide), (mq53 h).2.2]
theorem mA53 (h : MSh m σ) (hi : i < 21) : aL (hw σ I L) (some (m + 33)) (ofN i) = some (L (m + 33) i) := aL_hw (mq53 h).2.1 (by rw [(mq53 h).2.2]; exact hi) (Nat.lt_trans hi (by decide))
theorem mS53 (h : MSh m σ) (hi : i < 21) : sL (hw σ I L) (some (m + 33)) (ofN i) w = some (hw σ I (up1 L (m + 33) (ups (L (m + 33)) i w))) := sL_hw (mq53 h).2.1 (by rw [(mq53 h).2.2]; exact hi) (Nat.lt_trans hi (by decide)) (Nat.le_trans h.1 (Nat.le_add_right _ _))
theorem mq60 (h : MSh m σ) : hR σ m 60 = some (m + 34) ∧ htg σ (m + 34) = 101 ∧ hln σ (m + 34) = 3 := h.2.2 (60, 34, 1, 3) (List.mem_of_getElem? (i := 33) rfl)
theorem mR60 (h : MSh m σ) : gR (hw σ I L) (some m) [7] 60 = some (some (m + 34)) := (gR_hw (by rw [h.2.1]; exact List.mem_singleton.mpr rfl)).trans (congrArg some (mq60 h).1)
theorem mN60 (h : MSh m σ) : aN (hw σ I L) (some (m + 34)) = some (ofN 3) := by rw [aN_hw (by rw [(mq60 h).2.1]; decide) (by rw [(mq60 h).2.1]; decide), (mq60 h).2.2]
theorem mA60 (h : MSh m σ) (hi : i < 3) : aL (hw σ I L) (some (m + 34)) (ofN i) = some (L (m + 34) i) := aL_hw (mq60 h).2.1 (by rw [(mq60 h).2.2]; exact hi) (Nat.lt_trans hi (by decide))
theorem mS60 (h : MSh m σ) (hi : i < 3) : sL (hw σ I L) (some (m + 34)) (ofN i) w = some (hw σ I (up1 L (m + 34) (ups (L (m + 34)) i w))) := sL_hw (mq60 h).2.1 (by rw [(mq60 h).2.2]; exact hi) (Nat.lt_trans hi (by decide)) (Nat.le_trans h.1 (Nat.le_add_right _ _))
theorem mq61 (h : MSh m σ) : hR σ m 61 = some (m + 35) ∧ htg σ (m + 35) = 100 ∧ hln σ (m + 35) = 100 := h.2.2 (61, 35, 0, 100) (List.mem_of_getElem? (i := 34) rfl)
theorem mR61 (h : MSh m σ) : gR (hw σ I L) (some m) [7] 61 = some (some (m + 35)) := (gR_hw (by rw [h.2.1]; exact List.mem_singleton.mpr rfl)).trans (congrArg some (mq61 h).1)
theorem mN61 (h : MSh m σ) : aN (hw σ I L) (some (m + 35)) = some (ofN 100) := by rw [aN_hw (by rw [(mq61 h).2.1]; decide) (by rw [(mq61 h).2.1]; decide), (mq61 h).2.2]
theorem mA61 (h : MSh m σ) (hi : i < 100) : aI 0 (hw σ I L) (some (m + 35)) (ofN i) = some (I (m + 35) i) := aI_hw (mq61 h).2.1 (by rw [(mq61 h).2.2]; exact hi) (Nat.lt_trans hi (by decide))
theorem mS61 (h : MSh m σ) (hi : i < 100) : sI 0 (hw σ I L) (some (m + 35)) (ofN i) x = some (hw σ (up1 I (m + 35) (ups (I (m + 35)) i (x))) L) := sI_hw (mq61 h).2.1 (by rw [(mq61 h).2.2]; exact hi) (Nat.lt_trans hi (by decide)) (Nat.le_trans h.1 (Nat.le_add_right _ _))
end MODEL
