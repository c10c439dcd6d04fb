set_option maxRecDepth 100000
/-! HULLS, in plain numbers. sl f a b c d: the slope from a to b is at most that from c to d -/
def sl (f : Nat → Int) (a b c d : Nat) : Prop := (f b - f a) * ((d : Int) - c) ≤ (f d - f c) * ((b : Int) - a)
def slt (f : Nat → Int) (a b c d : Nat) : Prop := (f b - f a) * ((d : Int) - c) < (f d - f c) * ((b : Int) - a)
section HULL
variable {f : Nat → Int} {a b c d e g x y : Nat}
theorem sl_rfl : sl f a b a b := Int.le_refl _
theorem slt.le (h : slt f a b c d) : sl f a b c d := Int.le_of_lt h
theorem sl_not (h : ¬ slt f a b c d) : sl f c d a b := Int.not_lt.mp h
theorem sl_trans (hab : a < b) (hcd : c < d) (heg : e < g) (h1 : sl f a b c d) (h2 : sl f c d e g) : sl f a b e g := by
  unfold sl at *
  have p1 : (0 : Int) < (d : Int) - c := by omega
  have p2 : (0 : Int) ≤ (g : Int) - e := by omega
  have p3 : (0 : Int) ≤ (b : Int) - a := by omega
  refine Int.le_of_mul_le_mul_right ?_ p1
  have k1 := Int.mul_le_mul_of_nonneg_right h1 p2
  have k2 := Int.mul_le_mul_of_nonneg_right h2 p3
  rw [Int.mul_right_comm] at k1
  rw [Int.mul_right_comm (f d - f c)] at k1
  rw [Int.mul_right_comm (f g - f e)] at k2
  exact Int.le_trans k1 k2
theorem slt_sl (hab : a < b) (hcd : c < d) (heg : e < g) (h1 : slt f a b c d) (h2 : sl f c d e g) : slt f a b e g := by
  unfold slt at *
  unfold sl at h2
  have p1 : (0 : Int) < (d : Int) - c := by omega
  have p2 : (0 : Int) < (g : Int) - e := by omega
  have p3 : (0 : Int) ≤ (b : Int) - a := by omega
  refine Int.lt_of_mul_lt_mul_right ?_ (Int.le_of_lt p1)
  have k1 := Int.mul_lt_mul_of_pos_right h1 p2
  have k2 := Int.mul_le_mul_of_nonneg_right h2 p3
  rw [Int.mul_right_comm] at k1
  rw [Int.mul_right_comm (f d - f c)] at k1
  rw [Int.mul_right_comm (f g - f e)] at k2
  exact Int.lt_of_lt_of_le k1 k2
theorem sl_slt (hab : a < b) (hcd : c < d) (heg : e < g) (h1 : sl f a b c d) (h2 : slt f c d e g) : slt f a b e g := by
  unfold slt at *
  unfold sl at h1
  have p1 : (0 : Int) < (d : Int) - c := by omega
  have p2 : (0 : Int) ≤ (g : Int) - e := by omega
  have p3 : (0 : Int) < (b : Int) - a := by omega
  refine Int.lt_of_mul_lt_mul_right ?_ (Int.le_of_lt p1)
  have k1 := Int.mul_le_mul_of_nonneg_right h1 p2
  have k2 := Int.mul_lt_mul_of_pos_right h2 p3
  rw [Int.mul_right_comm] at k1
  rw [Int.mul_right_comm (f d - f c)] at k1
  rw [Int.mul_right_comm (f g - f e)] at k2
  exact Int.lt_of_le_of_lt k1 k2
/-- two pieces, each not flatter than xy -/
theorem sl_up (h1 : sl f x y a b) (h2 : sl f x y b c) : sl f x y a c := by
  unfold sl at *
  have e1 : (f y - f x) * ((c : Int) - a) = (f y - f x) * ((b : Int) - a) + (f y - f x) * ((c : Int) - b) := by
    rw [← Int.mul_add]; congr 1; omega
  have e2 : (f c - f a) * ((y : Int) - x) = (f b - f a) * ((y : Int) - x) + (f c - f b) * ((y : Int) - x) := by
    rw [← Int.add_mul]; congr 1; omega
  rw [e1, e2]
  exact Int.add_le_add h1 h2
theorem sl_dn (h1 : sl f a b x y) (h2 : sl f b c x y) : sl f a c x y := by
  unfold sl at *
  have e1 : (f y - f x) * ((c : Int) - a) = (f y - f x) * ((b : Int) - a) + (f y - f x) * ((c : Int) - b) := by
    rw [← Int.mul_add]; congr 1; omega
  have e2 : (f c - f a) * ((y : Int) - x) = (f b - f a) * ((y : Int) - x) + (f c - f b) * ((y : Int) - x) := by
    rw [← Int.add_mul]; congr 1; omega
  rw [e1, e2]
  exact Int.add_le_add h1 h2
/-- of a piece's two parts -/
theorem sl_rest (h : sl f a c a b) : sl f b c a c := by
  unfold sl at *
  have e1 : (f c - f b) * ((c : Int) - a) = (f c - f a) * ((c : Int) - a) - (f b - f a) * ((c : Int) - a) := by
    rw [← Int.sub_mul]; congr 1; omega
  have e2 : (f c - f a) * ((c : Int) - b) = (f c - f a) * ((c : Int) - a) - (f c - f a) * ((b : Int) - a) := by
    rw [← Int.mul_sub]; congr 1; omega
  rw [e1, e2]
  omega
theorem sl_head (h : sl f b c a c) : sl f a c a b := by
  unfold sl at *
  have e1 : (f c - f b) * ((c : Int) - a) = (f c - f a) * ((c : Int) - a) - (f b - f a) * ((c : Int) - a) := by
    rw [← Int.sub_mul]; congr 1; omega
  have e2 : (f c - f a) * ((c : Int) - b) = (f c - f a) * ((c : Int) - a) - (f c - f a) * ((b : Int) - a) := by
    rw [← Int.mul_sub]; congr 1; omega
  rw [e1, e2] at h
  omega
/-- c lies below the line from a to b -/
def blw (f : Nat → Int) (a c b : Nat) : Prop := f c * ((b : Int) - a) < f a * ((b : Int) - c) + f b * ((c : Int) - a)
theorem blw_iff : blw f a c b ↔ slt f a c c b := by
  unfold blw slt
  have e1 : f c * ((b : Int) - a) = f c * ((b : Int) - c) + f c * ((c : Int) - a) := by
    rw [← Int.mul_add]; congr 1; omega
  rw [e1, Int.sub_mul, Int.sub_mul]
  omega
end HULL
/-! the chain: s 0 .. s k -/
def Cn (f : Nat → Int) (s : Nat → Nat) (k : Nat) : Prop := s 0 = 0 ∧ (∀ i, i < k → s i < s (i + 1)) ∧ (∀ i, i + 1 < k → slt f (s i) (s (i + 1)) (s (i + 1)) (s (i + 2))) ∧ ∀ i, i < k → ∀ j, s i < j → j ≤ s (i + 1) → sl f (s i) (s (i + 1)) (s i) j
def Cp (f : Nat → Int) (s : Nat → Nat) (k q : Nat) : Prop := Cn f s k ∧ s k < q ∧ ∀ j, s k < j → j ≤ q → sl f (s k) q (s k) j
section CHAIN
variable {f : Nat → Int} {s : Nat → Nat} {k q : Nat}
theorem Cn.less (h : Cn f s (k + 1)) : Cn f s k := ⟨h.1, fun i hi => h.2.1 i (by omega), fun i hi => h.2.2.1 i (by omega), fun i hi => h.2.2.2 i (by omega)⟩
theorem Cp.first (h : Cn f s k) (hq : s k + 1 = q) : Cp f s k q := by
  refine ⟨h, by omega, fun j h1 h2 => ?_⟩
  rw [show j = q by omega]
  exact sl_rfl
theorem Cp.pop (h : Cp f s (k + 1) q) (hb : ¬ blw f (s k) (s (k + 1)) q) : Cp f s k q := by
  obtain ⟨hc, hq, hj⟩ := h
  have hpt := hc.2.1 k (by omega)
  rw [blw_iff] at hb
  have hs := sl_not hb
  refine ⟨hc.less, by omega, fun j h1 h2 => ?_⟩
  rcases Nat.lt_or_ge (s (k + 1)) j with h3 | h3
  · have j1 := hj j h3 h2
    rcases Nat.lt_or_ge j q with h4 | h4
    · have j2 : sl f j q (s (k + 1)) q := sl_rest j1
      have j3 : sl f (s (k + 1)) q (s k) q := sl_up hs sl_rfl
      exact sl_head (sl_trans h4 hq (by omega) j2 j3)
    · rw [show j = q by omega]
      exact sl_rfl
  · have j1 := hc.2.2.2 k (by omega) j h1 h3
    have j2 : sl f (s k) q (s k) (s (k + 1)) := sl_dn sl_rfl hs
    exact sl_trans (by omega) hpt h1 j2 j1
theorem Cp.push (h : Cp f s k q) (hb : k = 0 ∨ blw f (s (k - 1)) (s k) q) : Cn f (ups s (k + 1) q) (k + 1) := by
  obtain ⟨⟨h0, h1, h2, h3⟩, hq, hj⟩ := h
  have e : ∀ i, i ≤ k → ups s (k + 1) q i = s i := fun i hi => ups_ne (by omega)
  have e' : ups s (k + 1) q (k + 1) = q := ups_eq
  refine ⟨by rw [e 0 (by omega)]; exact h0, fun i hi => ?_, fun i hi => ?_, fun i hi j => ?_⟩
  · rcases Nat.lt_or_ge i k with h4 | h4
    · rw [e i (by omega), e (i + 1) (by omega)]; exact h1 i h4
    · rw [show i = k by omega, e k (by omega), e']; exact hq
  · rcases Nat.lt_or_ge (i + 1) k with h4 | h4
    · rw [e i (by omega), e (i + 1) (by omega), e (i + 2) (by omega)]; exact h2 i h4
    · have hk : i = k - 1 := by omega
      rcases hb with hb | hb
      · omega
      · rw [e i (by omega), e (i + 1) (by omega), show i + 2 = k + 1 by omega, e', show i + 1 = k by omega, hk]
        exact blw_iff.mp hb
  · rcases Nat.lt_or_ge i k with h4 | h4
    · rw [e i (by omega), e (i + 1) (by omega)]; exact h3 i h4 j
    · rw [show i = k by omega, e k (by omega), e']; exact hj j
/-- slopes grow along the chain -/
theorem Cn.grow (h : Cn f s k) {i : Nat} : ∀ d, i + d < k → sl f (s i) (s (i + 1)) (s (i + d)) (s (i + d + 1))
  | 0, _ => sl_rfl
  | d + 1, hd => by
    have ih := Cn.grow h (i := i) d (by omega)
    have h1 := h.2.2.1 (i + d) (by omega)
    exact sl_trans (h.2.1 i (by omega)) (h.2.1 (i + d) (by omega)) (h.2.1 (i + d + 1) (by omega)) ih h1.le
/-- the piece in which a place lies -/
theorem Cn.piece (h : Cn f s k) : ∀ d i j, i + d = k → s i < j → j ≤ s k → ∃ l, i ≤ l ∧ l < k ∧ s l < j ∧ j ≤ s (l + 1)
  | 0, i, j, hd, h1, h2 => by rw [show k = i by omega] at h2; omega
  | d + 1, i, j, hd, h1, h2 => by
    rcases Nat.lt_or_ge (s (i + 1)) j with h3 | h3
    · obtain ⟨l, l1, l2, l3, l4⟩ := Cn.piece h d (i + 1) j (by omega) h3 h2
      exact ⟨l, by omega, l2, l3, l4⟩
    · exact ⟨i, Nat.le_refl _, by omega, h1, h3⟩
theorem Cn.mono (h : Cn f s k) {i : Nat} : ∀ d, i + d ≤ k → s i ≤ s (i + d)
  | 0, _ => Nat.le_refl _
  | d + 1, hd => Nat.le_trans (Cn.mono h d (by omega)) (Nat.le_of_lt (h.2.1 (i + d) (by omega)))
theorem Cn.right (h : Cn f s k) {i : Nat} (hi : i < k) : ∀ d, i + d < k → ∀ b, s (i + d) < b → b ≤ s (i + d + 1) → sl f (s i) (s (i + 1)) (s i) b
  | 0, _, b, h1, h2 => h.2.2.2 i hi b h1 h2
  | d + 1, hd, b, h1, h2 => by
    have hm : s i < s (i + d + 1) := Nat.lt_of_le_of_lt (h.mono (i := i) d (by omega)) (h.2.1 (i + d) (by omega))
    have ih := Cn.right h hi d (by omega) (s (i + d + 1)) (h.2.1 (i + d) (by omega)) (Nat.le_refl _)
    have g1 := h.grow (i := i) (d + 1) hd
    have g2 := h.2.2.2 (i + d + 1) (by omega) b h1 h2
    exact sl_up ih (sl_trans (h.2.1 i hi) (h.2.1 (i + d + 1) (by omega)) h1 g1 g2)
theorem Cn.rightAll (h : Cn f s k) {i : Nat} (hi : i < k) {b : Nat} (h1 : s i < b) (h2 : b ≤ s k) : sl f (s i) (s (i + 1)) (s i) b := by
  obtain ⟨l, l1, l2, l3, l4⟩ := h.piece (k - i) i b (by omega) h1 h2
  have := h.right hi (l - i) (by omega) b (by rw [show i + (l - i) = l by omega]; exact l3) (by rw [show i + (l - i) = l by omega]; exact l4)
  exact this
/-- within a piece, from its end -/
theorem Cn.tail (h : Cn f s k) {l : Nat} (hl : l < k) {a : Nat} (h1 : s l ≤ a) (h2 : a < s (l + 1)) : sl f a (s (l + 1)) (s l) (s (l + 1)) := by
  rcases Nat.lt_or_ge (s l) a with h3 | h3
  · exact sl_rest (h.2.2.2 l hl a h3 (Nat.le_of_lt h2))
  · rw [show a = s l by omega]
    exact sl_rfl
theorem Cn.left (h : Cn f s k) {l a : Nat} (h1 : s l ≤ a) (h2 : a < s (l + 1)) : ∀ d, l + d < k → sl f a (s (l + d + 1)) (s (l + d)) (s (l + d + 1))
  | 0, hd => h.tail hd h1 h2
  | d + 1, hd => by
    have ih := Cn.left h h1 h2 d (by omega)
    have hm : a < s (l + d + 1) := Nat.lt_of_lt_of_le h2 (by have := h.mono (i := l + 1) d (by omega); rw [show l + 1 + d = l + d + 1 by omega] at this; exact this)
    have g := (h.2.2.1 (l + d) (by omega)).le
    have ih2 := sl_trans hm (h.2.1 (l + d) (by omega)) (h.2.1 (l + d + 1) (by omega)) ih g
    exact sl_dn ih2 sl_rfl
/-- the piece that begins at or ahead of a place -/
theorem Cn.piece' (h : Cn f s k) : ∀ i a, i ≤ k → a < s i → ∃ l, l < i ∧ s l ≤ a ∧ a < s (l + 1)
  | 0, a, _, h1 => by rw [h.1] at h1; omega
  | i + 1, a, hi, h1 => by
    rcases Nat.lt_or_ge a (s i) with h3 | h3
    · obtain ⟨l, l1, l2, l3⟩ := Cn.piece' h i a (by omega) h3
      exact ⟨l, by omega, l2, l3⟩
    · exact ⟨i, by omega, h3, h1⟩
theorem Cn.leftAll (h : Cn f s k) {i : Nat} (hi : i < k) {a : Nat} (h1 : a < s (i + 1)) : sl f a (s (i + 1)) (s i) (s (i + 1)) := by
  obtain ⟨l, l1, l2, l3⟩ := h.piece' (i + 1) a (by omega) h1
  have := h.left l2 l3 (i - l) (by omega)
  rw [show l + (i - l) = i by omega] at this
  exact this
/-- a place of the chain lies below all lines -/
theorem Cn.vertex (h : Cn f s k) {i a b : Nat} (hi : i ≤ k) (ha : a < s i) (hb : s i < b) (hN : b ≤ s k) : blw f a (s i) b := by
  rw [blw_iff]
  have i0 : i ≠ 0 := by intro e; rw [e, h.1] at ha; omega
  obtain ⟨i', rfl⟩ : ∃ i', i = i' + 1 := ⟨i - 1, by omega⟩
  have ik : i' + 1 ≠ k := by intro e; rw [← e] at hN; omega
  have r := h.rightAll (i := i' + 1) (by omega) hb hN
  have l := h.leftAll (i := i') (by omega) ha
  have c := h.2.2.1 i' (by omega)
  exact sl_slt ha (h.2.1 i' (by omega)) hb l (slt_sl (h.2.1 i' (by omega)) (h.2.1 (i' + 1) (by omega)) hb c r)
/-- a place between two of the chain doesn't -/
theorem Cn.between (h : Cn f s k) {i j : Nat} (hi : i < k) (h1 : s i < j) (h2 : j < s (i + 1)) : ¬ blw f (s i) j (s (i + 1)) := by
  intro hb
  rw [blw_iff] at hb
  have c := h.2.2.2 i hi j h1 (Nat.le_of_lt h2)
  have r : sl f j (s (i + 1)) (s i) (s (i + 1)) := sl_rest c
  have t := sl_trans h2 (h.2.1 i hi) h1 r c
  unfold sl at t
  unfold slt at hb
  omega
/-- the line of a piece lies nowhere above -/
theorem Cn.line (h : Cn f s k) {i j : Nat} (hi : i < k) (hj : j ≤ s k) : f (s i) * ((s (i + 1) : Int) - j) + f (s (i + 1)) * ((j : Int) - s i) ≤ f j * ((s (i + 1) : Int) - s i) := by
  have hlt := h.2.1 i hi
  rcases Nat.lt_or_ge j (s (i + 1)) with h1 | h1
  · have l := h.leftAll hi h1
    unfold sl at l
    rw [Int.sub_mul, Int.sub_mul] at l
    have e1 : f (s (i + 1)) * ((s (i + 1) : Int) - j) = f (s (i + 1)) * ((s (i + 1) : Int) - s i) - f (s (i + 1)) * ((j : Int) - s i) := by
      rw [← Int.mul_sub]; congr 1; omega
    omega
  · have r := h.rightAll hi (Nat.lt_of_lt_of_le hlt h1) hj
    unfold sl at r
    rw [Int.sub_mul, Int.sub_mul] at r
    have e1 : f (s i) * ((s (i + 1) : Int) - j) = f (s i) * ((s (i + 1) : Int) - s i) - f (s i) * ((j : Int) - s i) := by
      rw [← Int.mul_sub]; congr 1; omega
    omega
end CHAIN
