set_option maxRecDepth 100000
/-! THE ABSTRACT HEAP: where it begins, its size, slots made; by address: tag (a class's number, or 100 + an array type's), length; ints, longs, references by address and index -/
abbrev Hp : Type := (Nat × Nat × Nat × (Nat → Option Nat)) × ((Nat → Nat) × (Nat → Nat)) × (Nat → Nat → Int32) × (Nat → Nat → Int64) × (Nat → Nat → Option Nat)
def hlo (σ : Hp) : Nat := σ.1.1
def hsz (σ : Hp) : Nat := σ.1.2.1
def hus (σ : Hp) : Nat := σ.1.2.2.1
/-- addresses of statics and of String constants -/
def hst (σ : Hp) : Nat → Option Nat := σ.1.2.2.2
def htg (σ : Hp) : Nat → Nat := σ.2.1.1
def hln (σ : Hp) : Nat → Nat := σ.2.1.2
def hI (σ : Hp) : Nat → Nat → Int32 := σ.2.2.1
def hL (σ : Hp) : Nat → Nat → Int64 := σ.2.2.2.1
def hR (σ : Hp) : Nat → Nat → Option Nat := σ.2.2.2.2
def up2 {α : Type} (f : Nat → Nat → α) (a k : Nat) (v : α) : Nat → Nat → α := fun b j => if b = a ∧ j = k then v else f b j
def wI (σ : Hp) (a k : Nat) (v : Int32) : Hp := (σ.1, σ.2.1, up2 (hI σ) a k v, σ.2.2.2)
def wL (σ : Hp) (a k : Nat) (v : Int64) : Hp := (σ.1, σ.2.1, σ.2.2.1, up2 (hL σ) a k v, σ.2.2.2.2)
def wR (σ : Hp) (a k : Nat) (v : Option Nat) : Hp := (σ.1, σ.2.1, σ.2.2.1, σ.2.2.2.1, up2 (hR σ) a k v)
/-- whole rows -/
def up1 {α : Type} (f : Nat → Nat → α) (a : Nat) (g : Nat → α) : Nat → Nat → α := fun b => if b = a then g else f b
def rI (σ : Hp) (a : Nat) (g : Nat → Int32) : Hp := (σ.1, σ.2.1, up1 (hI σ) a g, σ.2.2.2)
def rL (σ : Hp) (a : Nat) (g : Nat → Int64) : Hp := (σ.1, σ.2.1, σ.2.2.1, up1 (hL σ) a g, σ.2.2.2.2)
def rR (σ : Hp) (a : Nat) (g : Nat → Option Nat) : Hp := (σ.1, σ.2.1, σ.2.2.1, σ.2.2.2.1, up1 (hR σ) a g)
/-- a new cell: tag, length, slots -/
def wN (σ : Hp) (t n u : Nat) : Hp := ((hlo σ, hsz σ + 1, hus σ + u, hst σ), ((fun b => if b = hsz σ then t else htg σ b), (fun b => if b = hsz σ then n else hln σ b)), up1 (hI σ) (hsz σ) (fun _ => 0), up1 (hL σ) (hsz σ) (fun _ => 0), up1 (hR σ) (hsz σ) (fun _ => none))
/-- a cell gets another tag -/
def wT (σ : Hp) (a t : Nat) : Hp := (σ.1, ((fun b => if b = a then t else htg σ b), hln σ), σ.2.2)
/-! array types -/
def ag : List FieldType := [.int, .long, .byte, .boolean, .char, .array .int, .array .long, .object "MissCurves$Book", .object "MissCurves$Books", .object "MissCurves$Shop", .object "MissCurves$Clause", .object "MissCurves$Test", .object "MissCurves$Held", .object "MissCurves$Act", .object "java/lang/String", .object "java/lang/Object"]
/-- a field's value -/
def fv (ty : FieldType) (σ : Hp) (a k : Nat) : Value := match ty with
  | .long => .long (hL σ a k)
  | .object _ => va_rf (hR σ a k)
  | .array _ => va_rf (hR σ a k)
  | _ => .int (hI σ a k)
def cgN (c : Nat) : Nat := ((cg[c]?).map (fun q => q.2.2)).getD 0
def flds (c : Nat) (σ : Hp) (a : Nat) : List Value := (List.range (cgN c)).map (fun k => fv (cgty c k) σ a k)
def elts (t : Nat) (σ : Hp) (a : Nat) : (Nat → Int32) ⊕ (Nat → Int64) ⊕ (Nat → UInt32) ⊕ (Nat → UInt64) ⊕ (Nat → Option Nat) :=
  if t = 1 then .inr (.inl (hL σ a)) else if t < 5 then .inl (hI σ a) else .inr (.inr (.inr (.inr (hR σ a))))
def cel (cA : Nat → ClassId) (σ : Hp) (a : Nat) : va_E :=
  if htg σ a < 100 then .inr (htg σ a, flds (htg σ a) σ a) else .inl (cA (htg σ a - 100), hln σ a, elts (htg σ a - 100) σ a)
def wld (cA : Nat → ClassId) (σ : Hp) : va_W := (List.range (hsz σ - hlo σ)).map (fun i => (hlo σ + i, cel cA σ (hlo σ + i)))
theorem wld_at {cA : Nat → ClassId} {σ : Hp} {a : Nat} (h1 : hlo σ ≤ a) (h2 : a < hsz σ) : (wld cA σ)[a - hlo σ]? = some (a, cel cA σ a) := by
  unfold wld
  rw [List.getElem?_map, List.getElem?_range (by omega)]
  simp only [Option.map_some]
  rw [show hlo σ + (a - hlo σ) = a by omega]
theorem wld_of {cA : Nat → ClassId} {σ : Hp} {k : Nat} {q : Nat × va_E} (h : (wld cA σ)[k]? = some q) : hlo σ ≤ q.1 ∧ q.1 < hsz σ ∧ k = q.1 - hlo σ ∧ q.2 = cel cA σ q.1 := by
  unfold wld at h
  rw [List.getElem?_map] at h
  by_cases hk : k < hsz σ - hlo σ
  · rw [List.getElem?_range hk] at h
    cases h
    refine ⟨?_, ?_, ?_, rfl⟩ <;> dsimp only <;> omega
  · rw [List.getElem?_eq_none (by rw [List.length_range]; omega)] at h
    cases h
theorem wld_D {cA : Nat → ClassId} {σ : Hp} {A : Nat → Prop} (hA : ∀ q, hlo σ ≤ q → A q) : va_D A (wld cA σ) := by
  refine ⟨fun i j p q hi hj e => ?_, fun k q hk => ?_⟩
  · obtain ⟨-, -, h1, -⟩ := wld_of hi
    obtain ⟨-, -, h2, -⟩ := wld_of hj
    rw [h1, h2, e]
  · exact hA _ (wld_of hk).1
/-- one cell changes -/
theorem wld_set {cA : Nat → ClassId} {σ τ : Hp} {a : Nat} {e : va_E} (hl : hlo τ = hlo σ) (hz : hsz τ = hsz σ) (h1 : hlo σ ≤ a) (he : cel cA τ a = e) (ho : ∀ b, b ≠ a → cel cA τ b = cel cA σ b) : (wld cA σ).set (a - hlo σ) (a, e) = wld cA τ := by
  apply List.ext_getElem?
  intro k
  by_cases hk : k = a - hlo σ
  · subst hk
    by_cases hs : a < hsz σ
    · rw [List.getElem?_set_self (by unfold wld; rw [List.length_map, List.length_range]; omega), ← he]
      have := wld_at (cA := cA) (σ := τ) (a := a) (by omega) (by omega)
      rw [hl] at this
      exact this.symm
    · rw [List.getElem?_eq_none (by rw [List.length_set]; unfold wld; rw [List.length_map, List.length_range]; omega), List.getElem?_eq_none (by unfold wld; rw [List.length_map, List.length_range]; omega)]
  · rw [List.getElem?_set_ne (Ne.symm hk)]
    unfold wld
    rw [List.getElem?_map, List.getElem?_map, hl, hz]
    by_cases hr : k < hsz σ - hlo σ
    · rw [List.getElem?_range hr]
      simp only [Option.map_some]
      rw [ho _ (by omega)]
    · rw [List.getElem?_eq_none (by rw [List.length_range]; omega)]
      rfl
theorem wld_push {cA : Nat → ClassId} {σ : Hp} {t n u : Nat} (hlz : hlo σ ≤ hsz σ) : wld cA (wN σ t n u) = wld cA σ ++ [(hsz σ, cel cA (wN σ t n u) (hsz σ))] := by
  have hz : hsz (wN σ t n u) = hsz σ + 1 := rfl
  have hl : hlo (wN σ t n u) = hlo σ := rfl
  unfold wld
  rw [hz, hl, show hsz σ + 1 - hlo σ = (hsz σ - hlo σ) + 1 by omega, List.range_succ, List.map_append]
  congr 1
  · apply List.map_congr_left
    intro i hi
    have hi := List.mem_range.mp hi
    have hne : hlo σ + i ≠ hsz σ := by omega
    have e : cel cA (wN σ t n u) (hlo σ + i) = cel cA σ (hlo σ + i) := by
      unfold cel
      have e1 : htg (wN σ t n u) (hlo σ + i) = htg σ (hlo σ + i) := if_neg hne
      have e2 : hln (wN σ t n u) (hlo σ + i) = hln σ (hlo σ + i) := if_neg hne
      have e3 : hI (wN σ t n u) (hlo σ + i) = hI σ (hlo σ + i) := if_neg hne
      have e4 : hL (wN σ t n u) (hlo σ + i) = hL σ (hlo σ + i) := if_neg hne
      have e5 : hR (wN σ t n u) (hlo σ + i) = hR σ (hlo σ + i) := if_neg hne
      have e6 : ∀ ty k, fv ty (wN σ t n u) (hlo σ + i) k = fv ty σ (hlo σ + i) k := by
        intro ty k
        unfold fv
        rw [e3, e4, e5]
      unfold flds elts
      simp only [e1, e2, e3, e4, e5, e6]
    rw [e]
  · simp only [List.map_cons, List.map_nil]
    rw [show hlo σ + (hsz σ - hlo σ) = hsz σ by omega]
/-- the cells of others -/
theorem cel_wI {cA : Nat → ClassId} {σ : Hp} {a k b : Nat} {v : Int32} (h : b ≠ a) : cel cA (wI σ a k v) b = cel cA σ b := by
  have e3 : hI (wI σ a k v) b = hI σ b := funext fun j => if_neg (fun q => h q.1)
  have e6 : ∀ ty k', fv ty (wI σ a k v) b k' = fv ty σ b k' := by
    intro ty k'
    unfold fv
    rw [e3]
    rfl
  unfold cel flds elts
  simp only [e3, e6]
  rfl
theorem cel_wL {cA : Nat → ClassId} {σ : Hp} {a k b : Nat} {v : Int64} (h : b ≠ a) : cel cA (wL σ a k v) b = cel cA σ b := by
  have e3 : hL (wL σ a k v) b = hL σ b := funext fun j => if_neg (fun q => h q.1)
  have e6 : ∀ ty k', fv ty (wL σ a k v) b k' = fv ty σ b k' := by
    intro ty k'
    unfold fv
    rw [e3]
    rfl
  unfold cel flds elts
  simp only [e3, e6]
  rfl
theorem cel_wR {cA : Nat → ClassId} {σ : Hp} {a k b : Nat} {v : Option Nat} (h : b ≠ a) : cel cA (wR σ a k v) b = cel cA σ b := by
  have e3 : hR (wR σ a k v) b = hR σ b := funext fun j => if_neg (fun q => h q.1)
  have e6 : ∀ ty k', fv ty (wR σ a k v) b k' = fv ty σ b k' := by
    intro ty k'
    unfold fv
    rw [e3]
    rfl
  unfold cel flds elts
  simp only [e3, e6]
  rfl
theorem cel_rI {cA : Nat → ClassId} {σ : Hp} {a b : Nat} {g : Nat → Int32} (h : b ≠ a) : cel cA (rI σ a g) b = cel cA σ b := by
  have e3 : hI (rI σ a g) b = hI σ b := if_neg h
  have e6 : ∀ ty k', fv ty (rI σ a g) b k' = fv ty σ b k' := by
    intro ty k'
    unfold fv
    rw [e3]
    rfl
  unfold cel flds elts
  simp only [e3, e6]
  rfl
theorem cel_rL {cA : Nat → ClassId} {σ : Hp} {a b : Nat} {g : Nat → Int64} (h : b ≠ a) : cel cA (rL σ a g) b = cel cA σ b := by
  have e3 : hL (rL σ a g) b = hL σ b := if_neg h
  have e6 : ∀ ty k', fv ty (rL σ a g) b k' = fv ty σ b k' := by
    intro ty k'
    unfold fv
    rw [e3]
    rfl
  unfold cel flds elts
  simp only [e3, e6]
  rfl
theorem cel_rR {cA : Nat → ClassId} {σ : Hp} {a b : Nat} {g : Nat → Option Nat} (h : b ≠ a) : cel cA (rR σ a g) b = cel cA σ b := by
  have e3 : hR (rR σ a g) b = hR σ b := if_neg h
  have e6 : ∀ ty k', fv ty (rR σ a g) b k' = fv ty σ b k' := by
    intro ty k'
    unfold fv
    rw [e3]
    rfl
  unfold cel flds elts
  simp only [e3, e6]
  rfl
