set_option maxRecDepth 100000
/-! THE SYSTEM's OBJECTS: shapes. A Book at b: its rows at b + 1 .. b + 5 -/
def btab : List (Nat × Nat × Nat × Nat) := [(0, 1, 0, 25), (1, 2, 0, 25), (2, 3, 0, 7), (3, 4, 0, 32), (4, 5, 1, 26)]
def BkSh (b : Nat) (σ : Hp) : Prop := hlo σ ≤ b ∧ htg σ b = 3 ∧ ∀ q ∈ btab, hR σ b q.1 = some (b + q.2.1) ∧ htg σ (b + q.2.1) = 100 + q.2.2.1 ∧ hln σ (b + q.2.1) = q.2.2.2
section BkSh
variable {b : Nat} {σ : Hp} {I : IM} {L : LM} {k i : Nat} {v x : Int32} {w : Int64}
theorem bgI (h : BkSh b σ) : gI (hw σ I L) (some b) [3] k = some (I b k) := gI_hw (by rw [h.2.1]; exact List.mem_singleton.mpr rfl)
theorem bgL (h : BkSh b σ) : gL (hw σ I L) (some b) [3] k = some (L b k) := gL_hw (by rw [h.2.1]; exact List.mem_singleton.mpr rfl)
theorem bpI (h : BkSh b σ) : pI (hw σ I L) (some b) [3] k v = some (hw σ (up1 I b (ups (I b) k v)) L) := pI_hw (by rw [h.2.1]; exact List.mem_singleton.mpr rfl) h.1
theorem bpZ0 (h : BkSh b σ) : pZ (hw σ I L) (some b) [3] k (ofN 0) = some (hw σ (up1 I b (ups (I b) k (ofN 0))) L) := pZ_hw (by rw [h.2.1]; exact List.mem_singleton.mpr rfl) h.1 (Or.inl rfl)
theorem bpZ1 (h : BkSh b σ) : pZ (hw σ I L) (some b) [3] k (ofN 1) = some (hw σ (up1 I b (ups (I b) k (ofN 1))) L) := pZ_hw (by rw [h.2.1]; exact List.mem_singleton.mpr rfl) h.1 (Or.inr rfl)
theorem bpL (h : BkSh b σ) : pL (hw σ I L) (some b) [3] k w = some (hw σ I (up1 L b (ups (L b) k w))) := pL_hw (by rw [h.2.1]; exact List.mem_singleton.mpr rfl) h.1
theorem bcT (h : BkSh b σ) : cT (hw σ I L) (some b) 3 = some b := cT_hw h.2.1
theorem bq0 (h : BkSh b σ) : hR σ b 0 = some (b + 1) ∧ htg σ (b + 1) = 100 ∧ hln σ (b + 1) = 25 := h.2.2 (0, 1, 0, 25) (List.mem_of_getElem? (i := 0) rfl)
theorem bR0 (h : BkSh b σ) : gR (hw σ I L) (some b) [3] 0 = some (some (b + 1)) := (gR_hw (by rw [h.2.1]; exact List.mem_singleton.mpr rfl)).trans (congrArg some (bq0 h).1)
theorem bN0 (h : BkSh b σ) : aN (hw σ I L) (some (b + 1)) = some (ofN 25) := by rw [aN_hw (by rw [(bq0 h).2.1]; decide) (by rw [(bq0 h).2.1]; decide), (bq0 h).2.2]
theorem bA0 (h : BkSh b σ) (hi : i < 25) : aI 0 (hw σ I L) (some (b + 1)) (ofN i) = some (I (b + 1) i) := aI_hw (bq0 h).2.1 (by rw [(bq0 h).2.2]; exact hi) (Nat.lt_trans hi (by decide))
theorem bS0 (h : BkSh b σ) (hi : i < 25) : sI 0 (hw σ I L) (some (b + 1)) (ofN i) x = some (hw σ (up1 I (b + 1) (ups (I (b + 1)) i (x))) L) := sI_hw (bq0 h).2.1 (by rw [(bq0 h).2.2]; exact hi) (Nat.lt_trans hi (by decide)) (Nat.le_trans h.1 (Nat.le_add_right _ _))
theorem bq1 (h : BkSh b σ) : hR σ b 1 = some (b + 2) ∧ htg σ (b + 2) = 100 ∧ hln σ (b + 2) = 25 := h.2.2 (1, 2, 0, 25) (List.mem_of_getElem? (i := 1) rfl)
theorem bR1 (h : BkSh b σ) : gR (hw σ I L) (some b) [3] 1 = some (some (b + 2)) := (gR_hw (by rw [h.2.1]; exact List.mem_singleton.mpr rfl)).trans (congrArg some (bq1 h).1)
theorem bN1 (h : BkSh b σ) : aN (hw σ I L) (some (b + 2)) = some (ofN 25) := by rw [aN_hw (by rw [(bq1 h).2.1]; decide) (by rw [(bq1 h).2.1]; decide), (bq1 h).2.2]
theorem bA1 (h : BkSh b σ) (hi : i < 25) : aI 0 (hw σ I L) (some (b + 2)) (ofN i) = some (I (b + 2) i) := aI_hw (bq1 h).2.1 (by rw [(bq1 h).2.2]; exact hi) (Nat.lt_trans hi (by decide))
theorem bS1 (h : BkSh b σ) (hi : i < 25) : sI 0 (hw σ I L) (some (b + 2)) (ofN i) x = some (hw σ (up1 I (b + 2) (ups (I (b + 2)) i (x))) L) := sI_hw (bq1 h).2.1 (by rw [(bq1 h).2.2]; exact hi) (Nat.lt_trans hi (by decide)) (Nat.le_trans h.1 (Nat.le_add_right _ _))
theorem bq2 (h : BkSh b σ) : hR σ b 2 = some (b + 3) ∧ htg σ (b + 3) = 100 ∧ hln σ (b + 3) = 7 := h.2.2 (2, 3, 0, 7) (List.mem_of_getElem? (i := 2) rfl)
theorem bR2 (h : BkSh b σ) : gR (hw σ I L) (some b) [3] 2 = some (some (b + 3)) := (gR_hw (by rw [h.2.1]; exact List.mem_singleton.mpr rfl)).trans (congrArg some (bq2 h).1)
theorem bN2 (h : BkSh b σ) : aN (hw σ I L) (some (b + 3)) = some (ofN 7) := by rw [aN_hw (by rw [(bq2 h).2.1]; decide) (by rw [(bq2 h).2.1]; decide), (bq2 h).2.2]
theorem bA2 (h : BkSh b σ) (hi : i < 7) : aI 0 (hw σ I L) (some (b + 3)) (ofN i) = some (I (b + 3) i) := aI_hw (bq2 h).2.1 (by rw [(bq2 h).2.2]; exact hi) (Nat.lt_trans hi (by decide))
theorem bS2 (h : BkSh b σ) (hi : i < 7) : sI 0 (hw σ I L) (some (b + 3)) (ofN i) x = some (hw σ (up1 I (b + 3) (ups (I (b + 3)) i (x))) L) := sI_hw (bq2 h).2.1 (by rw [(bq2 h).2.2]; exact hi) (Nat.lt_trans hi (by decide)) (Nat.le_trans h.1 (Nat.le_add_right _ _))
theorem bq3 (h : BkSh b σ) : hR σ b 3 = some (b + 4) ∧ htg σ (b + 4) = 100 ∧ hln σ (b + 4) = 32 := h.2.2 (3, 4, 0, 32) (List.mem_of_getElem? (i := 3) rfl)
theorem bR3 (h : BkSh b σ) : gR (hw σ I L) (some b) [3] 3 = some (some (b + 4)) := (gR_hw (by rw [h.2.1]; exact List.mem_singleton.mpr rfl)).trans (congrArg some (bq3 h).1)
theorem bN3 (h : BkSh b σ) : aN (hw σ I L) (some (b + 4)) = some (ofN 32) := by rw [aN_hw (by rw [(bq3 h).2.1]; decide) (by rw [(bq3 h).2.1]; decide), (bq3 h).2.2]
theorem bA3 (h : BkSh b σ) (hi : i < 32) : aI 0 (hw σ I L) (some (b + 4)) (ofN i) = some (I (b + 4) i) := aI_hw (bq3 h).2.1 (by rw [(bq3 h).2.2]; exact hi) (Nat.lt_trans hi (by decide))
theorem bS3 (h : BkSh b σ) (hi : i < 32) : sI 0 (hw σ I L) (some (b + 4)) (ofN i) x = some (hw σ (up1 I (b + 4) (ups (I (b + 4)) i (x))) L) := sI_hw (bq3 h).2.1 (by rw [(bq3 h).2.2]; exact hi) (Nat.lt_trans hi (by decide)) (Nat.le_trans h.1 (Nat.le_add_right _ _))
theorem bq4 (h : BkSh b σ) : hR σ b 4 = some (b + 5) ∧ htg σ (b + 5) = 101 ∧ hln σ (b + 5) = 26 := h.2.2 (4, 5, 1, 26) (List.mem_of_getElem? (i := 4) rfl)
theorem bR4 (h : BkSh b σ) : gR (hw σ I L) (some b) [3] 4 = some (some (b + 5)) := (gR_hw (by rw [h.2.1]; exact List.mem_singleton.mpr rfl)).trans (congrArg some (bq4 h).1)
theorem bN4 (h : BkSh b σ) : aN (hw σ I L) (some (b + 5)) = some (ofN 26) := by rw [aN_hw (by rw [(bq4 h).2.1]; decide) (by rw [(bq4 h).2.1]; decide), (bq4 h).2.2]
theorem bA4 (h : BkSh b σ) (hi : i < 26) : aL (hw σ I L) (some (b + 5)) (ofN i) = some (L (b + 5) i) := aL_hw (bq4 h).2.1 (by rw [(bq4 h).2.2]; exact hi) (Nat.lt_trans hi (by decide))
theorem bS4 (h : BkSh b σ) (hi : i < 26) : sL (hw σ I L) (some (b + 5)) (ofN i) w = some (hw σ I (up1 L (b + 5) (ups (L (b + 5)) i w))) := sL_hw (bq4 h).2.1 (by rw [(bq4 h).2.2]; exact hi) (Nat.lt_trans hi (by decide)) (Nat.le_trans h.1 (Nat.le_add_right _ _))
end BkSh
/-! copies of parts of rows -/
section CP
variable {σ : Hp} {I : IM} {L : LM} {a0 a s d n t : Nat}
theorem cpI_hw (h0 : htg σ a0 = 100 + t) (h1 : htg σ a = 100 + t) (hl : hlo σ ≤ a) (hs : s + n ≤ hln σ a0) (hd : d + n ≤ hln σ a) (b1 : s < 2147483648) (b2 : d < 2147483648) (b3 : n < 2147483648) (hf : ∀ i, i < n → fits (ag.getD t .int) (.int (I a0 (s + i))) = true) :
    cpI t (hw σ I L) (some a0) (ofN s) (some a) (ofN d) (ofN n) = some (hw σ (up1 I a (va_cpy (I a0) (I a) s d n)) L) := by
  have e1 := ofN_toN b1
  have e2 := ofN_toN b2
  have e3 := ofN_toN b3
  refine (if_pos ⟨⟨h0, h1, hl⟩, ⟨⟨Int32.zero_le_ofNat_of_lt b1, Int32.zero_le_ofNat_of_lt b2, Int32.zero_le_ofNat_of_lt b3⟩, by rw [e1, e3]; exact hs, by rw [e2, e3]; exact hd⟩, by rw [e1, e3]; exact hf⟩).trans ?_
  rw [e1, e2, e3]; rfl
theorem cpL_hw (h0 : htg σ a0 = 101) (h1 : htg σ a = 101) (hl : hlo σ ≤ a) (hs : s + n ≤ hln σ a0) (hd : d + n ≤ hln σ a) (b1 : s < 2147483648) (b2 : d < 2147483648) (b3 : n < 2147483648) :
    cpL (hw σ I L) (some a0) (ofN s) (some a) (ofN d) (ofN n) = some (hw σ I (up1 L a (va_cpy (L a0) (L a) s d n))) := by
  have e1 := ofN_toN b1
  have e2 := ofN_toN b2
  have e3 := ofN_toN b3
  refine (if_pos ⟨⟨h0, h1, hl⟩, ⟨⟨Int32.zero_le_ofNat_of_lt b1, Int32.zero_le_ofNat_of_lt b2, Int32.zero_le_ofNat_of_lt b3⟩, by rw [e1, e3]; exact hs, by rw [e2, e3]; exact hd⟩⟩).trans ?_
  rw [e1, e2, e3]; rfl
theorem cpR_hw {t1 : Nat} (h0 : htg σ a0 = 100 + t) (h1 : htg σ a = 100 + t1) (hl : hlo σ ≤ a) (hs : s + n ≤ hln σ a0) (hd : d + n ≤ hln σ a) (b1 : s < 2147483648) (b2 : d < 2147483648) (b3 : n < 2147483648) (hf : ∀ i, i < n → (hR σ a0 (s + i)).all (fun v => okA t1 (htg σ v)) = true) :
    cpR t t1 (hw σ I L) (some a0) (ofN s) (some a) (ofN d) (ofN n) = some (hw (rR σ a (va_cpy (hR σ a0) (hR σ a) s d n)) I L) := by
  have e1 := ofN_toN b1
  have e2 := ofN_toN b2
  have e3 := ofN_toN b3
  refine (if_pos ⟨⟨h0, h1, hl⟩, ⟨⟨Int32.zero_le_ofNat_of_lt b1, Int32.zero_le_ofNat_of_lt b2, Int32.zero_le_ofNat_of_lt b3⟩, by rw [e1, e3]; exact hs, by rw [e2, e3]; exact hd⟩, by rw [e1, e3]; exact hf⟩).trans ?_
  rw [e1, e2, e3]; rfl
theorem sR_hw {i : Nat} {x : Option Nat} (h : htg σ a = 100 + t) (hi : i < hln σ a) (h2 : i < 2147483648) (hl : hlo σ ≤ a) (hx : x.all (fun v => okA t (htg σ v)) = true) : sR t (hw σ I L) (some a) (ofN i) x = some (hw (wR σ a i x) I L) := by
  have e := ofN_toN h2
  refine (if_pos ⟨h, ⟨Int32.zero_le_ofNat_of_lt h2, by rw [e]; exact hi⟩, hl, hx⟩).trans ?_
  rw [e]; rfl
end CP
theorem bC0 {b b' s d n : Nat} {σ : Hp} {I : IM} {L : LM} (h : BkSh b σ) (h' : BkSh b' σ) (hs : s + n ≤ 25) (hd : d + n ≤ 25) : cpI 0 (hw σ I L) (some (b' + 1)) (ofN s) (some (b + 1)) (ofN d) (ofN n) = some (hw σ (up1 I (b + 1) (va_cpy (I (b' + 1)) (I (b + 1)) s d n)) L) :=
  cpI_hw (bq0 h').2.1 (bq0 h).2.1 (Nat.le_trans h.1 (Nat.le_add_right _ _)) (by rw [(bq0 h').2.2]; exact hs) (by rw [(bq0 h).2.2]; exact hd) (by omega) (by omega) (by omega) (fun _ _ => rfl)
theorem bC1 {b b' s d n : Nat} {σ : Hp} {I : IM} {L : LM} (h : BkSh b σ) (h' : BkSh b' σ) (hs : s + n ≤ 25) (hd : d + n ≤ 25) : cpI 0 (hw σ I L) (some (b' + 2)) (ofN s) (some (b + 2)) (ofN d) (ofN n) = some (hw σ (up1 I (b + 2) (va_cpy (I (b' + 2)) (I (b + 2)) s d n)) L) :=
  cpI_hw (bq1 h').2.1 (bq1 h).2.1 (Nat.le_trans h.1 (Nat.le_add_right _ _)) (by rw [(bq1 h').2.2]; exact hs) (by rw [(bq1 h).2.2]; exact hd) (by omega) (by omega) (by omega) (fun _ _ => rfl)
theorem bC2 {b b' s d n : Nat} {σ : Hp} {I : IM} {L : LM} (h : BkSh b σ) (h' : BkSh b' σ) (hs : s + n ≤ 7) (hd : d + n ≤ 7) : cpI 0 (hw σ I L) (some (b' + 3)) (ofN s) (some (b + 3)) (ofN d) (ofN n) = some (hw σ (up1 I (b + 3) (va_cpy (I (b' + 3)) (I (b + 3)) s d n)) L) :=
  cpI_hw (bq2 h').2.1 (bq2 h).2.1 (Nat.le_trans h.1 (Nat.le_add_right _ _)) (by rw [(bq2 h').2.2]; exact hs) (by rw [(bq2 h).2.2]; exact hd) (by omega) (by omega) (by omega) (fun _ _ => rfl)
theorem bC3 {b b' s d n : Nat} {σ : Hp} {I : IM} {L : LM} (h : BkSh b σ) (h' : BkSh b' σ) (hs : s + n ≤ 32) (hd : d + n ≤ 32) : cpI 0 (hw σ I L) (some (b' + 4)) (ofN s) (some (b + 4)) (ofN d) (ofN n) = some (hw σ (up1 I (b + 4) (va_cpy (I (b' + 4)) (I (b + 4)) s d n)) L) :=
  cpI_hw (bq3 h').2.1 (bq3 h).2.1 (Nat.le_trans h.1 (Nat.le_add_right _ _)) (by rw [(bq3 h').2.2]; exact hs) (by rw [(bq3 h).2.2]; exact hd) (by omega) (by omega) (by omega) (fun _ _ => rfl)
theorem bC4 {b b' s d n : Nat} {σ : Hp} {I : IM} {L : LM} (h : BkSh b σ) (h' : BkSh b' σ) (hs : s + n ≤ 26) (hd : d + n ≤ 26) : cpL (hw σ I L) (some (b' + 5)) (ofN s) (some (b + 5)) (ofN d) (ofN n) = some (hw σ I (up1 L (b + 5) (va_cpy (L (b' + 5)) (L (b + 5)) s d n))) :=
  cpL_hw (bq4 h').2.1 (bq4 h).2.1 (Nat.le_trans h.1 (Nat.le_add_right _ _)) (by rw [(bq4 h').2.2]; exact hs) (by rw [(bq4 h).2.2]; exact hd) (by omega) (by omega) (by omega)
/-! what a call leaves as it was -/
def FrI (lo hi : Nat) (I I' : IM) : Prop := ∀ a, a < lo ∨ hi ≤ a → I' a = I a
def FrL (lo hi : Nat) (L L' : LM) : Prop := ∀ a, a < lo ∨ hi ≤ a → L' a = L a
theorem FrI.rfl {lo hi : Nat} {I : IM} : FrI lo hi I I := fun _ _ => Eq.refl _
theorem FrL.rfl {lo hi : Nat} {L : LM} : FrL lo hi L L := fun _ _ => Eq.refl _
theorem FrI.trans {lo hi : Nat} {I I' I'' : IM} (h : FrI lo hi I I') (h' : FrI lo hi I' I'') : FrI lo hi I I'' := fun a ha => (h' a ha).trans (h a ha)
theorem FrL.trans {lo hi : Nat} {I I' I'' : LM} (h : FrL lo hi I I') (h' : FrL lo hi I' I'') : FrL lo hi I I'' := fun a ha => (h' a ha).trans (h a ha)
theorem FrI.wide {lo hi lo' hi' : Nat} {I I' : IM} (h : FrI lo hi I I') (h1 : lo' ≤ lo) (h2 : hi ≤ hi') : FrI lo' hi' I I' := fun a ha => h a (by omega)
theorem FrL.wide {lo hi lo' hi' : Nat} {I I' : LM} (h : FrL lo hi I I') (h1 : lo' ≤ lo) (h2 : hi ≤ hi') : FrL lo' hi' I I' := fun a ha => h a (by omega)
/-- a Book at b holds the ints B, the parts Q -/
def BkRel (I : IM) (L : LM) (b : Nat) (B : Nat → Int32) (Q : Nat → Int64) : Prop :=
  I b 5 = B 0 ∧ I b 6 = B 50 ∧ I b 7 = B 59 ∧ I b 8 = B 58 ∧ (∀ i, i < nat32 (B 0) → I (b + 1) i = B (1 + i)) ∧ (∀ i, i < 25 → I (b + 2) i = B (25 + i)) ∧ (∀ i, i < nat32 (B 50) → I (b + 3) i = B (51 + i)) ∧ (∀ i, i < nat32 (B 59) → I (b + 4) i = B (60 + i)) ∧ (∀ i, 1 ≤ i → i ≤ 24 → L (b + 5) i = Q i) ∧ L (b + 5) 25 = Q 0
theorem BkRel.fr {I I' : IM} {L L' : LM} {b lo hi : Nat} {B : Nat → Int32} {Q : Nat → Int64} (h : BkRel I L b B Q) (h1 : FrI lo hi I I') (h2 : FrL lo hi L L') (hb : b + 6 ≤ lo ∨ hi ≤ b) : BkRel I' L' b B Q := by
  unfold BkRel at *
  rw [h1 b (by omega), h1 (b + 1) (by omega), h1 (b + 2) (by omega), h1 (b + 3) (by omega), h1 (b + 4) (by omega), h2 (b + 5) (by omega)]
  exact h
def Dst (B : Nat → Int32) (row n : Nat) : Prop := ∀ i j, 1 ≤ i → i < j → j ≤ n → B (row + i) ≠ B (row + j)
def lstF (R : Nat → Int32) (key : Int32) : Nat → Nat → Nat → Nat
  | 0, _, x => x
  | r + 1, k, x => lstF R key r (k + 1) (if R k = key then k + 1 else x)
theorem plcF_zero {B : Nat → Int32} {row : Nat} {key : Int32} : ∀ (r k : Nat), (∀ j, k ≤ j → j < k + r → B (row + j) ≠ key) → plcF B row key r k = 0
  | 0, _, _ => Eq.refl _
  | r + 1, k, h => by
    unfold plcF
    rw [if_neg (h k (Nat.le_refl _) (by omega))]
    exact plcF_zero r (k + 1) (fun j h1 h2 => h j (by omega) (by omega))
theorem lst_plc {R B : Nat → Int32} {row n : Nat} {key : Int32} (hR : ∀ i, i < n → R i = B (row + (i + 1))) (hd : Dst B row n) : ∀ (r k x : Nat), k + r = n → lstF R key r k x = if plcF B row key r (k + 1) = 0 then x else plcF B row key r (k + 1)
  | 0, k, x, _ => by
    unfold lstF plcF
    rw [if_pos (Eq.refl _)]
  | r + 1, k, x, hk => by
    unfold lstF plcF
    rw [hR k (by omega)]
    by_cases hx : B (row + (k + 1)) = key
    · rw [if_pos hx, if_pos hx, if_neg (by omega), lst_plc hR hd r (k + 1) (k + 1) (by omega), plcF_zero, if_pos (Eq.refl _)]
      intro j h1 h2 h3
      exact hd (k + 1) j (by omega) (by omega) (by omega) (hx.trans h3.symm)
    · rw [if_neg hx, if_neg hx, lst_plc hR hd r (k + 1) x (by omega)]
theorem ite_plc {a : Nat} : (if a = 0 then 0 else a) = a := by split <;> omega
section XPLACE
variable {σ : Hp} {I : IM} {L : LM}
theorem X_placeF {a n : Nat} {key : Int32} (ht : htg σ a = 100) (hl : n ≤ hln σ a) (hn : n < 1000) : ∀ (r fuel k x : Nat), n = k + r → x ≤ 1000 → r < fuel →
    X3_placeIn_c5 (some a) (ofN n) key fuel (ofN x) (ofN k) (hw σ I L) = some (ofN (lstF (I a) key r k x), hw σ I L) := by
  intro r
  induction r with
  | zero =>
    intro fuel k x hk hx hf
    obtain ⟨f, rfl⟩ : ∃ f, fuel = f + 1 := ⟨fuel - 1, by omega⟩
    simp (disch := first | omega | assumption) only [X3_placeIn_c5, lstF, Option.bind_some, ofN_add, ofN_mul, ofN_sub, ofN_lt, ofN_le, ofN_inj, ofN_dec, ofN_lt_neg, neg_lt_ofN, ofN_le_neg, neg_le_ofN, ofN_eq_neg, neg_eq_ofN, ofN_irm, ofN_div, l0, l1, l2, l3, l4, l5, l6, l7, l8, l9, l10, l11, l12, l13, l14, l15, l16, l17, l18, l19, l20, l21, l22, l23, l24, l25, l26, l27, l28, l29, l30, l31, l32, l33, l34, l35, l36, l37, l38, l39, l40, l41, l42, l43, l44, l45, l46, l47, l48, l49, l50, l51, l52, l53, l54, l55, l56, l57, l58, l59, l60, l61, l62, l63, l64, l65, l66, l67, l68, l69, l70, l71, l72, l73, l74, l75, l76, l77, l78, l79, l80, l81, l82, l83, l84, l85, l86, l87, l88, l89, l90, l91, l92, l93, l94, l95, l96, l97, l98, l99, l100, l101, l102, l103, l104, l105, l106, l107, l108, l109, l110, l111, l112, l113, l114, l115, l116, l117, l118, l119, l120, l121, l122, l123, l124, l125, l126, l127, l128, l129, l130, l131, l196, l200, l245, l255, l368, l369, l370, l382, l383, l384, l385, l386, l387, l388, l394, l395, l400, l401, l617, l738, l800, l999, l1000, l1500, l1600, l2400, l3195, l5920, l5995, l11990, l99999, l1000000, l100000000, l1000000000, l2000000000, l2147483647]
    rw [if_pos (by omega)]
  | succ r ih =>
    intro fuel k x hk hx hf
    obtain ⟨f, rfl⟩ : ∃ f, fuel = f + 1 := ⟨fuel - 1, by omega⟩
    simp (disch := first | omega | assumption) only [X3_placeIn_c5, lstF, aI_hw (t := 0) ht, Option.bind_some, ofN_add, ofN_mul, ofN_sub, ofN_lt, ofN_le, ofN_inj, ofN_dec, ofN_lt_neg, neg_lt_ofN, ofN_le_neg, neg_le_ofN, ofN_eq_neg, neg_eq_ofN, ofN_irm, ofN_div, l0, l1, l2, l3, l4, l5, l6, l7, l8, l9, l10, l11, l12, l13, l14, l15, l16, l17, l18, l19, l20, l21, l22, l23, l24, l25, l26, l27, l28, l29, l30, l31, l32, l33, l34, l35, l36, l37, l38, l39, l40, l41, l42, l43, l44, l45, l46, l47, l48, l49, l50, l51, l52, l53, l54, l55, l56, l57, l58, l59, l60, l61, l62, l63, l64, l65, l66, l67, l68, l69, l70, l71, l72, l73, l74, l75, l76, l77, l78, l79, l80, l81, l82, l83, l84, l85, l86, l87, l88, l89, l90, l91, l92, l93, l94, l95, l96, l97, l98, l99, l100, l101, l102, l103, l104, l105, l106, l107, l108, l109, l110, l111, l112, l113, l114, l115, l116, l117, l118, l119, l120, l121, l122, l123, l124, l125, l126, l127, l128, l129, l130, l131, l196, l200, l245, l255, l368, l369, l370, l382, l383, l384, l385, l386, l387, l388, l394, l395, l400, l401, l617, l738, l800, l999, l1000, l1500, l1600, l2400, l3195, l5920, l5995, l11990, l99999, l1000000, l100000000, l1000000000, l2000000000, l2147483647]
    rw [if_neg (by omega)]
    by_cases hq : I a k = key
    · rw [if_pos hq, if_pos hq]
      exact ih f (k + 1) (k + 1) (by omega) (by omega) (by omega)
    · rw [if_neg hq, if_neg hq]
      exact ih f (k + 1) x (by omega) (by omega) (by omega)
theorem X_place {b : Nat} (h : BkSh b σ) {n : Nat} {key : Int32} {B : Nat → Int32} {Q : Nat → Int64} (hr : BkRel I L b B Q) (hn : B 0 = ofN n) (hb : n ≤ 24) (hd : Dst B 0 n) : X3_place (some b) key (hw σ I L) = some (ofN (plcB B 0 key), hw σ I L) := by
  have h5 : I b 5 = ofN n := hr.1.trans hn
  have hR : ∀ i, i < n → I (b + 1) i = B (0 + (i + 1)) := fun i hi => by rw [hr.2.2.2.2.1 i (by rw [hn, nat32_ofN (by omega)]; exact hi)]; congr 1; omega
  simp (disch := first | omega | assumption) only [X3_place, X3_placeIn, h5, bgI, bgL, bpI, bpZ0, bpZ1, bpL, bcT, bR0, bN0, bA0, bS0, bR1, bN1, bA1, bS1, bR2, bN2, bA2, bS2, bR3, bN3, bA3, bS3, bR4, bN4, bA4, bS4, Option.bind_some, ofN_add, ofN_mul, ofN_sub, ofN_lt, ofN_le, ofN_inj, ofN_dec, ofN_lt_neg, neg_lt_ofN, ofN_le_neg, neg_le_ofN, ofN_eq_neg, neg_eq_ofN, ofN_irm, ofN_div, l0, l1, l2, l3, l4, l5, l6, l7, l8, l9, l10, l11, l12, l13, l14, l15, l16, l17, l18, l19, l20, l21, l22, l23, l24, l25, l26, l27, l28, l29, l30, l31, l32, l33, l34, l35, l36, l37, l38, l39, l40, l41, l42, l43, l44, l45, l46, l47, l48, l49, l50, l51, l52, l53, l54, l55, l56, l57, l58, l59, l60, l61, l62, l63, l64, l65, l66, l67, l68, l69, l70, l71, l72, l73, l74, l75, l76, l77, l78, l79, l80, l81, l82, l83, l84, l85, l86, l87, l88, l89, l90, l91, l92, l93, l94, l95, l96, l97, l98, l99, l100, l101, l102, l103, l104, l105, l106, l107, l108, l109, l110, l111, l112, l113, l114, l115, l116, l117, l118, l119, l120, l121, l122, l123, l124, l125, l126, l127, l128, l129, l130, l131, l196, l200, l245, l255, l368, l369, l370, l382, l383, l384, l385, l386, l387, l388, l394, l395, l400, l401, l617, l738, l800, l999, l1000, l1500, l1600, l2400, l3195, l5920, l5995, l11990, l99999, l1000000, l100000000, l1000000000, l2000000000, l2147483647]
  rw [X_placeF (bq0 h).2.1 (by rw [(bq0 h).2.2]; omega) (by omega) n FUEL 0 0 (by omega) (by omega) (by unfold FUEL; omega), Option.bind_some, lst_plc hR hd n 0 0 (by omega)]
  unfold plcB
  rw [hn, nat32_ofN (by omega)]
  rw [ite_plc]
theorem X_placeSampled {b : Nat} (h : BkSh b σ) {n : Nat} {key : Int32} {B : Nat → Int32} {Q : Nat → Int64} (hr : BkRel I L b B Q) (hn : B 50 = ofN n) (hb : n ≤ 7) (hd : Dst B 50 n) : X3_placeSampled (some b) key (hw σ I L) = some (ofN (plcB B 50 key), hw σ I L) := by
  have h5 : I b 6 = ofN n := hr.2.1.trans hn
  have hR : ∀ i, i < n → I (b + 3) i = B (50 + (i + 1)) := fun i hi => by rw [hr.2.2.2.2.2.2.1 i (by rw [hn, nat32_ofN (by omega)]; exact hi)]; congr 1; omega
  simp (disch := first | omega | assumption) only [X3_placeSampled, X3_placeIn, h5, bgI, bgL, bpI, bpZ0, bpZ1, bpL, bcT, bR0, bN0, bA0, bS0, bR1, bN1, bA1, bS1, bR2, bN2, bA2, bS2, bR3, bN3, bA3, bS3, bR4, bN4, bA4, bS4, Option.bind_some, ofN_add, ofN_mul, ofN_sub, ofN_lt, ofN_le, ofN_inj, ofN_dec, ofN_lt_neg, neg_lt_ofN, ofN_le_neg, neg_le_ofN, ofN_eq_neg, neg_eq_ofN, ofN_irm, ofN_div, l0, l1, l2, l3, l4, l5, l6, l7, l8, l9, l10, l11, l12, l13, l14, l15, l16, l17, l18, l19, l20, l21, l22, l23, l24, l25, l26, l27, l28, l29, l30, l31, l32, l33, l34, l35, l36, l37, l38, l39, l40, l41, l42, l43, l44, l45, l46, l47, l48, l49, l50, l51, l52, l53, l54, l55, l56, l57, l58, l59, l60, l61, l62, l63, l64, l65, l66, l67, l68, l69, l70, l71, l72, l73, l74, l75, l76, l77, l78, l79, l80, l81, l82, l83, l84, l85, l86, l87, l88, l89, l90, l91, l92, l93, l94, l95, l96, l97, l98, l99, l100, l101, l102, l103, l104, l105, l106, l107, l108, l109, l110, l111, l112, l113, l114, l115, l116, l117, l118, l119, l120, l121, l122, l123, l124, l125, l126, l127, l128, l129, l130, l131, l196, l200, l245, l255, l368, l369, l370, l382, l383, l384, l385, l386, l387, l388, l394, l395, l400, l401, l617, l738, l800, l999, l1000, l1500, l1600, l2400, l3195, l5920, l5995, l11990, l99999, l1000000, l100000000, l1000000000, l2000000000, l2147483647]
  rw [X_placeF (bq2 h).2.1 (by rw [(bq2 h).2.2]; omega) (by omega) n FUEL 0 0 (by omega) (by omega) (by unfold FUEL; omega), Option.bind_some, lst_plc hR hd n 0 0 (by omega)]
  unfold plcB
  rw [hn, nat32_ofN (by omega)]
  rw [ite_plc]
end XPLACE
