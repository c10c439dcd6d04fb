set_option maxRecDepth 100000
/-! THROWS, as the printed walks use them: a method that may throw answers (Nat ⊕ T) × Hp -/
def fxV : Nat ⊕ Unit → Nat ⊕ Option Value
  | .inl a => .inl a
  | .inr _ => .inr none
def fxI : Nat ⊕ Int32 → Nat ⊕ Option Value
  | .inl a => .inl a
  | .inr v => .inr (some (.int v))
def fxR : Nat ⊕ Option Nat → Nat ⊕ Option Value
  | .inl a => .inl a
  | .inr v => .inr (some (va_rf v))
theorem J_mX {γ : GP} {μ : MP} {y : MethodName} {na : Nat} {o : Nat ⊕ Option Value} {σ σ1 : Hp} (hγ : GOK γ) (hy : YK y μ na) (hh0 : μ.2.2.2.2.2.2 = []) (ts : List (Nat × Value)) (hts : cats ts) (hlen : (ts.map (fun q => q.1)).sum ≤ μ.2.2.1) (body : J γ μ (σ, o, σ1) σ 0 (lva 0 ts) []) : Rn γ μ y (ts.map (fun q => q.2)) (σ, o, σ1) := by
  cases o with
  | inl q => exact J_mT hγ hy hh0 ts hts hlen body
  | inr v => exact J_m hγ hy hh0 ts hts hlen body
theorem retVX {σ : Hp} {q : (Nat ⊕ Unit) × Hp} (h : some (Sum.inr (), σ) = some q) : ((Sum.inr none, σ) : (Nat ⊕ Option Value) × Hp) = (fxV q.1, q.2) := by cases h; rfl
theorem retIX {x : Int32} {σ : Hp} {q : (Nat ⊕ Int32) × Hp} (h : some (Sum.inr x, σ) = some q) : ((Sum.inr (some (.int x)), σ) : (Nat ⊕ Option Value) × Hp) = (fxI q.1, q.2) := by cases h; rfl
theorem retRX {x : Option Nat} {σ : Hp} {q : (Nat ⊕ Option Nat) × Hp} (h : some (Sum.inr x, σ) = some q) : ((Sum.inr (some (va_rf x)), σ) : (Nat ⊕ Option Value) × Hp) = (fxR q.1, q.2) := by cases h; rfl
theorem thrV {b : Nat} {σ : Hp} {q : (Nat ⊕ Unit) × Hp} (h : (Sum.inl b, σ) = q) : ((Sum.inl b, σ) : (Nat ⊕ Option Value) × Hp) = (fxV q.1, q.2) := by cases h; rfl
theorem thrI {b : Nat} {σ : Hp} {q : (Nat ⊕ Int32) × Hp} (h : (Sum.inl b, σ) = q) : ((Sum.inl b, σ) : (Nat ⊕ Option Value) × Hp) = (fxI q.1, q.2) := by cases h; rfl
theorem thrR {b : Nat} {σ : Hp} {q : (Nat ⊕ Option Nat) × Hp} (h : (Sum.inl b, σ) = q) : ((Sum.inl b, σ) : (Nat ⊕ Option Value) × Hp) = (fxR q.1, q.2) := by cases h; rfl
/-- the throw of a Wrong -/
def tW {T : Type} (r : Option Nat) (σ : Hp) : Option ((Nat ⊕ T) × Hp) := (cT σ r 11).bind fun b => some (.inl b, σ)
theorem tW_of {T : Type} {r : Option Nat} {σ : Hp} {q : (Nat ⊕ T) × Hp} (h : tW r σ = some q) : ∃ b, r = some b ∧ htg σ b = 11 ∧ (Sum.inl b, σ) = q := by
  unfold tW at h
  obtain ⟨b, hb, h⟩ := some_of_bind h
  obtain ⟨h1, h2⟩ := cT_of hb
  exact ⟨b, h1, h2, Option.some.inj h⟩
/-- behind a call that may throw: what is thrown goes on, else k -/
def bT {T U : Type} (v : (Nat ⊕ T) × Hp) (k : T → Option ((Nat ⊕ U) × Hp)) : Option ((Nat ⊕ U) × Hp) :=
  match v.1 with
  | .inl a => if htg v.2 a = 11 then some (.inl a, v.2) else none
  | .inr w => k w
theorem bT_of {T U : Type} {v : (Nat ⊕ T) × Hp} {k : T → Option ((Nat ⊕ U) × Hp)} {q : (Nat ⊕ U) × Hp} (h : bT v k = some q) : (∃ a, v.1 = .inl a ∧ htg v.2 a = 11 ∧ (Sum.inl a, v.2) = q) ∨ ∃ w, v.1 = .inr w ∧ k w = some q := by
  unfold bT at h
  cases hv : v.1 with
  | inl a =>
    rw [hv] at h
    exact Or.inl ⟨a, rfl, (ite_some h).1, (ite_some h).2⟩
  | inr w =>
    rw [hv] at h
    exact Or.inr ⟨w, rfl, h⟩
/-- a receiver of one of two classes -/
def cT2 (σ : Hp) (r : Option Nat) (c d : Nat) : Option Nat := r.bind fun a => if htg σ a = c ∨ htg σ a = d then some a else none
def RC (σ : Hp) (r : Option Nat) (b : Nat) (y : MethodName) : Prop := ∃ (c9 : Nat) (q : vw_C), cT σ r c9 = some b ∧ c9 < 100 ∧ cg[c9]? = some q ∧ Cond.selects q.1 y y ∈ lw_all
theorem RC.two {σ : Hp} {r : Option Nat} {b c d : Nat} {y : MethodName} {q1 q2 : vw_C} (h : cT2 σ r c d = some b) (hc : c < 100) (hd : d < 100) (h1 : cg[c]? = some q1) (h2 : cg[d]? = some q2) (s1 : Cond.selects q1.1 y y ∈ lw_all) (s2 : Cond.selects q2.1 y y ∈ lw_all) : RC σ r b y := by
  unfold cT2 at h
  obtain ⟨a, rfl, h⟩ := some_of_bind h
  obtain ⟨ht, h⟩ := ite_some h
  cases h
  rcases ht with ht | ht
  · exact ⟨c, q1, show (if htg σ b = c then some b else none) = some b from if_pos ht, hc, h1, s1⟩
  · exact ⟨d, q2, show (if htg σ b = d then some b else none) = some b from if_pos ht, hd, h2, s2⟩
theorem RC.one {σ : Hp} {r : Option Nat} {b c : Nat} {y : MethodName} {q1 : vw_C} (h : cT σ r c = some b) (hc : c < 100) (h1 : cg[c]? = some q1) (s1 : Cond.selects q1.1 y y ∈ lw_all) : RC σ r b y := ⟨c, q1, h, hc, h1, s1⟩
section JW
variable {γ : GP} {μ μ1 : MP} {φ : FP} {σ σ1 : Hp} {pc q0 : Nat} {l : LVs} {st rest : List Value} {idx na k9 b : Nat} {y : MethodName} {r : Option Nat}
theorem J_cWi {x : Int32} (n : Nat) (d : decode μ.1 pc = .ok (.invokevirtual idx, 3)) (e : pc + 3 = n) (hy : YK y μ1 na) (hl : LK μ.2.1 idx y) (hin : Cond.instanceMethod y ∈ lw_all) (hd : μ1.2.2.2.2.1 + 1 ≤ μ.2.2.2.2.1) (hcs : cs rest k9) (hk : k9 ≤ 8) (As : List Value) (hrc : RC σ r b y) (hn : As.length = na) (hst : st = As.reverse ++ va_rf r :: rest) (hR : Rn γ μ1 y (va_rf r :: As) (σ, .inr (some (.int x)), σ1)) (k : J γ μ φ σ1 n l (.int x :: rest)) : J γ μ φ σ pc l st := by
  obtain ⟨c9, q, h1, h2, h3, h4⟩ := hrc
  exact J_cVi n d e hy hl hin h4 hd hcs hk As h1 h2 h3 hn hst hR k
theorem J_cWl {x : Int64} (n : Nat) (d : decode μ.1 pc = .ok (.invokevirtual idx, 3)) (e : pc + 3 = n) (hy : YK y μ1 na) (hl : LK μ.2.1 idx y) (hin : Cond.instanceMethod y ∈ lw_all) (hd : μ1.2.2.2.2.1 + 1 ≤ μ.2.2.2.2.1) (hcs : cs rest k9) (hk : k9 ≤ 8) (As : List Value) (hrc : RC σ r b y) (hn : As.length = na) (hst : st = As.reverse ++ va_rf r :: rest) (hR : Rn γ μ1 y (va_rf r :: As) (σ, .inr (some (.long x)), σ1)) (k : J γ μ φ σ1 n l (.long x :: rest)) : J γ μ φ σ pc l st := by
  obtain ⟨c9, q, h1, h2, h3, h4⟩ := hrc
  exact J_cVl n d e hy hl hin h4 hd hcs hk As h1 h2 h3 hn hst hR k
theorem J_cWr {x : Option Nat} (n : Nat) (d : decode μ.1 pc = .ok (.invokevirtual idx, 3)) (e : pc + 3 = n) (hy : YK y μ1 na) (hl : LK μ.2.1 idx y) (hin : Cond.instanceMethod y ∈ lw_all) (hd : μ1.2.2.2.2.1 + 1 ≤ μ.2.2.2.2.1) (hcs : cs rest k9) (hk : k9 ≤ 8) (As : List Value) (hrc : RC σ r b y) (hn : As.length = na) (hst : st = As.reverse ++ va_rf r :: rest) (hR : Rn γ μ1 y (va_rf r :: As) (σ, .inr (some (va_rf x)), σ1)) (k : J γ μ φ σ1 n l (va_rf x :: rest)) : J γ μ φ σ pc l st := by
  obtain ⟨c9, q, h1, h2, h3, h4⟩ := hrc
  exact J_cVr n d e hy hl hin h4 hd hcs hk As h1 h2 h3 hn hst hR k
theorem J_cWv (n : Nat) (d : decode μ.1 pc = .ok (.invokevirtual idx, 3)) (e : pc + 3 = n) (hy : YK y μ1 na) (hl : LK μ.2.1 idx y) (hin : Cond.instanceMethod y ∈ lw_all) (hd : μ1.2.2.2.2.1 + 1 ≤ μ.2.2.2.2.1) (hcs : cs rest k9) (hk : k9 ≤ 8) (As : List Value) (hrc : RC σ r b y) (hn : As.length = na) (hst : st = As.reverse ++ va_rf r :: rest) (hR : Rn γ μ1 y (va_rf r :: As) (σ, .inr (none), σ1)) (k : J γ μ φ σ1 n l (rest)) : J γ μ φ σ pc l st := by
  obtain ⟨c9, q, h1, h2, h3, h4⟩ := hrc
  exact J_cVv n d e hy hl hin h4 hd hcs hk As h1 h2 h3 hn hst hR k
theorem J_cWT (d : decode μ.1 pc = .ok (.invokevirtual idx, 3)) (hy : YK y μ1 na) (hl : LK μ.2.1 idx y) (hin : Cond.instanceMethod y ∈ lw_all) (hd : μ1.2.2.2.2.1 + 1 ≤ μ.2.2.2.2.1) (hcs : cs rest k9) (hk : k9 ≤ 8) (As : List Value) (hrc : RC σ r b y) (hn : As.length = na) (hst : st = As.reverse ++ va_rf r :: rest) (hR : Rn γ μ1 y (va_rf r :: As) (σ, .inl q0, σ1)) (k : JT γ μ φ σ1 pc l rest q0) : J γ μ φ σ pc l st := by
  obtain ⟨c9, q, h1, h2, h3, h4⟩ := hrc
  exact J_cVT d hy hl hin h4 hd hcs hk As h1 h2 h3 hn hst hR k
end JW
