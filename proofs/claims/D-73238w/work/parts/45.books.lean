set_option maxRecDepth 100000
/-! PLAIN: what a push leaves in a tenant's ints -/
def pushB (B : Nat → Int32) (key : Int32) : Nat → Int32 := lastB (rd4 (rd2 B (plcB B 0 key)) key) 59 key
section PUSH
variable {B : Nat → Int32} {key : Int32} {n nr p : Nat}
theorem outB_at {row j : Nat} (hn : B row = ofN n) (hb : n < 1000) : outB B row p j = if j = row then ofN n - ofN 1 else if row + p ≤ j ∧ j < row + n then B (j + 1) else B j := by
  unfold outB shl ups
  rw [hn, nat32_ofN (by omega)]
theorem firstB_at {row j : Nat} (hn : B row = ofN n) (hb : n < 1000) : firstB B row key j = if j = row then ofN (n + 1) else if j = row + 1 then key else if row + 1 < j ∧ j ≤ row + n + 1 then B (j - 1) else B j := by
  unfold firstB shr ups
  rw [hn, nat32_ofN (by omega), ofN_add]
theorem lastB_at {row j : Nat} (hn : B row = ofN n) (hb : n < 1000) : lastB B row key j = if j = row then ofN (n + 1) else if j = row + (n + 1) then key else B j := by
  unfold lastB ups
  rw [hn, nat32_ofN (by omega), ofN_add]
/-- the stack behind a place that goes out -/
theorem rd2_at (hn : B 0 = ofN n) (hb : n ≤ 24) (hp : p ≤ n) (j : Nat) : rd2 B p j = if j = 0 then ofN (if 0 < p ∨ n = 24 then n - 1 else n) else if 0 < p ∧ p ≤ j ∧ j < n then B (j + 1) else B j := by
  unfold rd2
  by_cases h0 : 0 < p
  · rw [if_pos h0, outB_at hn (by omega)]
    have e : ofN n - ofN 1 = ofN (n - 1) := ofN_sub (by omega)
    rw [e]
    grind
  · rw [if_neg h0]
    by_cases h24 : B 0 = ofN 24
    · have hx : n = 24 := by rw [hn, ofN_inj (by omega) (by omega)] at h24; exact h24
      subst hx
      rw [if_pos h24, outB_at hn (by omega)]
      have e : ofN 24 - ofN 1 = ofN (24 - 1) := ofN_sub (by omega)
      rw [e]
      grind
    · have hx : n ≠ 24 := by
        intro e
        rw [hn, e] at h24
        exact h24 rfl
      rw [if_neg h24]
      grind
theorem rd4_at (hn : B 0 = ofN n) (hb : n ≤ 23) (hr : B 59 = ofN nr) (hr2 : nr ≤ 32) (j : Nat) : rd4 B key j = if j = 0 then ofN (n + 1) else if j = 1 then key else if j ≤ n + 1 then B (j - 1) else if j = 59 then ofN (if nr = 32 then 31 else nr) else if nr = 32 ∧ 60 ≤ j ∧ j < 91 then B (j + 1) else B j := by
  have f59 : firstB B 0 key 59 = ofN nr := by rw [firstB_at hn (by omega), if_neg (by omega), if_neg (by omega), if_neg (by omega)]; exact hr
  unfold rd4
  rw [f59]
  by_cases h32 : ofN nr = ofN 32
  · have hx : nr = 32 := by rw [ofN_inj (by omega) (by omega)] at h32; exact h32
    subst hx
    rw [if_pos h32, outB_at f59 (by omega)]
    have e : ofN 32 - ofN 1 = ofN 31 := ofN_sub (by omega)
    rw [e, firstB_at hn (by omega), firstB_at hn (by omega)]
    grind
  · have hx : nr ≠ 32 := by rw [ofN_inj (by omega) (by omega)] at h32; exact h32
    rw [if_neg h32, firstB_at hn (by omega)]
    grind
theorem push_at {ns l : Nat} (hB : BN B n ns nr l) (j : Nat) : pushB B key j =
    if j = 0 then ofN (if 0 < plcB B 0 key ∨ n = 24 then n else n + 1)
    else if j = 1 then key
    else if j ≤ (if 0 < plcB B 0 key ∨ n = 24 then n else n + 1) then (if 0 < plcB B 0 key ∧ plcB B 0 key < j then B j else B (j - 1))
    else if j = 59 then ofN (if nr = 32 then 32 else nr + 1)
    else if j = 60 + (if nr = 32 then 31 else nr) then key
    else if nr = 32 ∧ 60 ≤ j ∧ j < 91 then B (j + 1)
    else B j := by
  obtain ⟨⟨n0, n1⟩, ⟨s0, s1⟩, ⟨r0, r1⟩, -⟩ := hB
  have hp := plcB_le (key := key) n0 (by omega)
  have a0 : rd2 B (plcB B 0 key) 0 = ofN (if 0 < plcB B 0 key ∨ n = 24 then n - 1 else n) := by rw [rd2_at n0 n1 hp, if_pos rfl]
  have a59 : rd2 B (plcB B 0 key) 59 = ofN nr := by rw [rd2_at n0 n1 hp, if_neg (by omega), if_neg (by omega)]; exact r0
  have hn' : (if 0 < plcB B 0 key ∨ n = 24 then n - 1 else n) ≤ 23 := by split <;> omega
  have b59 : rd4 (rd2 B (plcB B 0 key)) key 59 = ofN (if nr = 32 then 31 else nr) := by
    rw [rd4_at a0 hn' a59 r1, if_neg (by omega), if_neg (by omega), if_neg (by omega), if_pos rfl]
  unfold pushB
  rw [lastB_at b59 (by split <;> omega), rd4_at a0 hn' a59 r1, rd2_at n0 n1 hp, rd2_at n0 n1 hp, rd2_at n0 n1 hp]
  generalize plcB B 0 key = p at *
  grind
end PUSH
