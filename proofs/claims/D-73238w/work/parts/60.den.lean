set_option maxRecDepth 100000
/-! TEXTS, plain: tokens by number (cd: codes; vl: values; behind the last one 0), what sums and tests tell (none: broken) -/
abbrev Env : Type := Nat → Int64
abbrev DS : Type := Env → Option Int64
abbrev DT : Type := Env → Option Bool
/-- a fault at a token; or the token behind, leaves, what was read -/
abbrev PR (α : Type) : Type := Nat ⊕ (Nat × Nat × α)
def wth (v : Int64) : Option Int64 := if 1000000000 < v ∨ v < -1000000000 then none else some v
def opv (c : Nat) (p q : Int64) : Option Int64 :=
  if c = 143 then wth (p + q) else if c = 145 then wth (p - q) else if c = 142 then wth (p * q)
  else if q = 0 then none else if c = 147 then some (p / q) else some (lrm p q)
def jn (c : Nat) (d d' : DS) : DS := fun e => (d e).bind fun p => (d' e).bind fun q => opv c p q
def okW (ord : Bool) (c : Nat) : Bool := if ord = true then decide (12 ≤ c ∧ c ≤ 16) else decide (7 ≤ c ∧ c ≤ 12)
/-- behind a reading -/
def pBd {α β : Type} (x : PR α) (k : Nat → Nat → α → PR β) : PR β := match x with
  | .inl j => .inl j
  | .inr q => k q.1 q.2.1 q.2.2
theorem pBd_inr {α β : Type} {x : PR α} {k : Nat → Nat → α → PR β} {q : Nat × Nat × β} (h : pBd x k = .inr q) : ∃ i lv d, x = .inr (i, lv, d) ∧ k i lv d = .inr q := by
  unfold pBd at h
  cases x with
  | inl j => cases h
  | inr z => exact ⟨z.1, z.2.1, z.2.2, rfl, h⟩
section PARSE
variable (ord : Bool) (cd vl : Nat → Nat)
def pLeaf (i lv : Nat) : PR DS :=
  if cd i = 50 ∧ vl i ≤ 1000 ∨ okW ord (cd i) = true then
    if 50 ≤ lv then .inl i
    else if ord = true ∧ (cd i = 15 ∨ cd i = 16) then
      if cd (i + 1) = 50 ∧ vl (i + 1) ≤ 3 then .inr (i + 2, lv + 1, fun e => some (e ((if cd i = 15 then 100 else 200) + vl (i + 1)))) else .inl (i + 1)
    else .inr (i + 1, lv + 1, if cd i = 50 then fun _ => some ((ofN (vl i)).toInt64) else fun e => some (e (cd i)))
  else .inl i
def pPart (rec : Option (Nat → Nat → PR DS)) (i lv : Nat) : PR DS :=
  if cd i = 191 then
    match rec with
    | none => .inl i
    | some r => pBd (r (i + 1) lv) fun i' lv' d => if cd i' = 193 then .inr (i' + 1, lv', d) else .inl i'
  else pLeaf ord cd vl i lv
/-- a row of parts, joined by some signs -/
def pRow (ok : Nat → Bool) (part : Nat → Nat → PR DS) : Nat → Nat → Nat → DS → PR DS
  | 0, i, lv, d => .inr (i, lv, d)
  | r + 1, i, lv, d => if ok (cd i) = true then pBd (part (i + 1) lv) fun i' lv' d' => pRow ok part r i' lv' (jn (cd i) d d') else .inr (i, lv, d)
def isMul (c : Nat) : Bool := decide (c = 142 ∨ c = 147 ∨ c = 137)
def isAdd (c : Nat) : Bool := decide (c = 143 ∨ c = 145)
def pTerm (rec : Option (Nat → Nat → PR DS)) (i lv : Nat) : PR DS := pBd (pPart ord cd vl rec i lv) (pRow cd isMul (pPart ord cd vl rec) 500)
def pSum1 (rec : Option (Nat → Nat → PR DS)) (i lv : Nat) : PR DS := pBd (pTerm ord cd vl rec i lv) (pRow cd isAdd (pTerm ord cd vl rec) 500)
def pSum : Nat → Nat → Nat → PR DS
  | 0 => pSum1 ord cd vl none
  | e + 1 => pSum1 ord cd vl (some (pSum e))
def recOf : Nat → Option (Nat → Nat → PR DS)
  | 0 => none
  | e + 1 => some (pSum ord cd vl e)
theorem pSum_eq (e : Nat) : pSum ord cd vl e = pSum1 ord cd vl (recOf ord cd vl e) := by cases e <;> rfl
/-! tests -/
def pNots : Nat → Nat → Bool → Nat × Bool
  | 0, i, b => (i, b)
  | r + 1, i, b => if cd i = 6 then pNots r (i + 1) (!b) else (i, b)
def cmpD (c : Nat) (d d' : DS) : DT := fun e => (d e).bind fun p => (d' e).bind fun q => some (if c = 160 then decide (p < q) else if c = 162 then decide (q < p) else decide (p = q))
def negD (b : Bool) (t : DT) : DT := if b = true then fun e => (t e).map (!·) else t
def andD (t t' : DT) : DT := fun e => (t e).bind fun b => if b = true then t' e else some false
def orD (t t' : DT) : DT := fun e => (t e).bind fun b => if b = true then some true else t' e
def pPos (e : Nat) (rec : Option (Nat → Nat → PR DT)) (i lv : Nat) : PR DT :=
  if cd i = 140 then
    match rec with
    | none => .inl i
    | some r => pBd (r (i + 1) lv) fun i' lv' d => if cd i' = 141 then .inr (i' + 1, lv', d) else .inl i'
  else pBd (pSum ord cd vl e i lv) fun i1 lv1 d1 => if cd i1 = 160 ∨ cd i1 = 162 ∨ cd i1 = 161 then pBd (pSum ord cd vl e (i1 + 1) lv1) fun i2 lv2 d2 => .inr (i2, lv2, cmpD (cd i1) d1 d2) else .inl i1
def pPlain (e : Nat) (rec : Option (Nat → Nat → PR DT)) (i lv : Nat) : PR DT := pBd (pPos ord cd vl e rec (pNots cd 500 i false).1 lv) fun i' lv' d => .inr (i', lv', negD (pNots cd 500 i false).2 d)
def pTRow (c : Nat) (f : DT → DT → DT) (part : Nat → Nat → PR DT) : Nat → Nat → Nat → DT → PR DT
  | 0, i, lv, d => .inr (i, lv, d)
  | r + 1, i, lv, d => if cd i = c then pBd (part (i + 1) lv) fun i' lv' d' => pTRow c f part r i' lv' (f d d') else .inr (i, lv, d)
def pBoth (e : Nat) (rec : Option (Nat → Nat → PR DT)) (i lv : Nat) : PR DT := pBd (pPlain ord cd vl e rec i lv) (pTRow cd 5 andD (pPlain ord cd vl e rec) 500)
def pTest1 (e : Nat) (rec : Option (Nat → Nat → PR DT)) (i lv : Nat) : PR DT := pBd (pBoth ord cd vl e rec i lv) (pTRow cd 4 orD (pBoth ord cd vl e rec) 500)
def pTest : Nat → Nat → Nat → PR DT
  | 0 => pTest1 ord cd vl 0 none
  | e + 1 => pTest1 ord cd vl (e + 1) (some (pTest e))
def recT : Nat → Option (Nat → Nat → PR DT)
  | 0 => none
  | e + 1 => some (pTest ord cd vl e)
theorem pTest_eq (e : Nat) : pTest ord cd vl e = pTest1 ord cd vl e (recT ord cd vl e) := by cases e <;> rfl
end PARSE
/-! what is told stays within bounds -/
def inB (v : Int64) : Prop := -1000000000 ≤ v.toInt ∧ v.toInt ≤ 1000000000
def EOK (e : Env) : Prop := ∀ c, inB (e c)
def DB (d : DS) : Prop := ∀ e, EOK e → ∀ v, d e = some v → inB v
theorem wth_in {v w : Int64} (h : wth v = some w) : inB w := by
  unfold wth at h
  split at h
  · cases h
  · next hx =>
    cases h
    have h1 : ¬ (1000000000 : Int64) < v := fun z => hx (Or.inl z)
    have h2 : ¬ v < (-1000000000 : Int64) := fun z => hx (Or.inr z)
    rw [Int64.lt_iff_toInt_lt] at h1 h2
    have e1 : (1000000000 : Int64).toInt = 1000000000 := rfl
    have e2 : (-1000000000 : Int64).toInt = -1000000000 := rfl
    exact ⟨by omega, by omega⟩
theorem div_in {p q : Int64} (h : inB p) : inB (p / q) ∧ (p / q).toInt = p.toInt.tdiv q.toInt := by
  have hd : (p / q).toInt = p.toInt.tdiv q.toInt := by
    apply Int64.toInt_div_of_ne_left
    intro e
    have := h.1
    rw [e] at this
    revert this
    decide
  refine ⟨?_, hd⟩
  have h1 := Int.natAbs_tdiv_le_natAbs p.toInt q.toInt
  have := h.1
  have := h.2
  unfold inB
  rw [hd]
  omega
theorem rem_in {p q : Int64} (h : inB p) : inB (lrm p q) := by
  have hd := (div_in (q := q) h).2
  have h3 : (p.toInt.tmod q.toInt).natAbs ≤ p.toInt.natAbs := by
    rw [Int.natAbs_tmod]
    exact Nat.mod_le _ _
  have b1 := h.1
  have b2 := h.2
  have e : (lrm p q).toInt = p.toInt.tmod q.toInt := by
    unfold lrm
    rw [Int64.toInt_sub, Int64.toInt_mul, hd]
    have h1 := Int.mul_tdiv_add_tmod p.toInt q.toInt
    rw [Int.mul_comm] at h1
    rw [Int.bmod_eq_of_le (n := p.toInt.tdiv q.toInt * q.toInt) (by omega) (by omega), Int.bmod_eq_of_le (by omega) (by omega)]
    omega
  unfold inB
  rw [e]
  omega
theorem jn_db {c : Nat} {d d' : DS} (h : DB d) : DB (jn c d d') := by
  intro e he v hv
  unfold jn at hv
  obtain ⟨p, hp, hv⟩ := some_of_bind hv
  obtain ⟨q, -, hv⟩ := some_of_bind hv
  have hb := h e he p hp
  unfold opv at hv
  split at hv
  · exact wth_in hv
  · split at hv
    · exact wth_in hv
    · split at hv
      · exact wth_in hv
      · split at hv
        · cases hv
        · split at hv
          · cases hv; exact (div_in hb).1
          · cases hv; exact rem_in hb
