set_option maxRecDepth 100000
/-! WHAT THE PRINTED WALKS USE -/
theorem len_lg : ∀ (ts : List (Nat × Value)), cats ts → (lg_sl (ts.map (fun q => q.2))).length = (ts.map (fun q => q.1)).sum
  | [], _ => rfl
  | (c, v) :: t, h => by
    have hc : v.category = c := h (c, v) List.mem_cons_self
    have ih := len_lg t (fun q hq => h q (List.mem_cons_of_mem _ hq))
    have e : lg_sl (((c, v) :: t).map (fun q => q.2)) = (if v.category = 2 then [Slot.val v, .second] else [.val v]) ++ lg_sl (t.map (fun q => q.2)) := by
      unfold lg_sl
      rw [List.map_cons, List.flatMap_cons]
    rw [e, List.length_append, ih, List.map_cons, List.sum_cons]
    rcases lv_cat v with z | z
    · rw [if_neg (by omega)]
      show 1 + _ = c + _
      omega
    · rw [if_pos z]
      show 2 + _ = c + _
      omega
theorem J_m {γ : GP} {μ : MP} {y : MethodName} {na : Nat} {v : Option Value} {σ σ1 : Hp} (hγ : GOK γ) (hy : YK y μ na) (hh0 : μ.2.2.2.2.2.2 = []) (ts : List (Nat × Value)) (hts : cats ts) (hlen : (ts.map (fun q => q.1)).sum ≤ μ.2.2.1) (body : J γ μ (σ, .inr v, σ1) σ 0 (lva 0 ts) []) : Rn γ μ y (ts.map (fun q => q.2)) (σ, .inr v, σ1) :=
  J_met hγ hy hh0 ts hts (by rw [len_lg ts hts]; exact hlen) body
/-- a receiver of class c -/
def cT (σ : Hp) (r : Option Nat) (c : Nat) : Option Nat := r.bind fun a => if htg σ a = c then some a else none
theorem cT_of {σ : Hp} {r : Option Nat} {c b : Nat} (h : cT σ r c = some b) : r = some b ∧ htg σ b = c := by
  obtain ⟨a, rfl, h⟩ := some_of_bind h
  obtain ⟨h1, rfl⟩ := ite_some h
  exact ⟨rfl, h1⟩
theorem FOK.one {own : String} {idx c k : Nat} {p : FieldType → Bool} {q : vw_C} (h100 : c < 100) (hcg : cg[c]? = some q) (hk : k < q.2.2) (hF : FL own idx (q.2.1 k)) (hp : p (cgty c k) = true) : FOK own idx [c] k p := by
  intro c' hc
  rw [List.mem_singleton.mp hc]
  exact ⟨h100, q.1, q.2.1, q.2.2, hcg, hk, hF, hp⟩
theorem FOK.cons {own : String} {idx c k : Nat} {cs : List Nat} {p : FieldType → Bool} {q : vw_C} (h100 : c < 100) (hcg : cg[c]? = some q) (hk : k < q.2.2) (hF : FL own idx (q.2.1 k)) (hp : p (cgty c k) = true) (h : FOK own idx cs k p) : FOK own idx (c :: cs) k p := by
  intro c' hc
  rcases List.mem_cons.mp hc with e | e
  · rw [e]
    exact ⟨h100, q.1, q.2.1, q.2.2, hcg, hk, hF, hp⟩
  · exact h c' e
theorem POK.one {own nm : String} {idx c k : Nat} {ty : FieldType} {q : vw_C} (h100 : c < 100) (hcg : cg[c]? = some q) (hk : k < q.2.2) (hF : FL own idx (q.2.1 k)) (hp : cgty c k = ty) (hnm : ∀ j, j < q.2.2 → j ≠ k → (q.2.1 j).2.1 ≠ (q.2.1 k).2.1) (hfin : (q.2.1 k).2.2.2 = false ∨ ((q.2.1 k).2.2.2 = true ∧ nm = "<init>" ∧ (q.2.1 k).1 = own ∧ ∃ ref, Cond.fieldLink own idx ref (q.2.1 k).2.1 (q.2.1 k).2.2.1 ∈ lw_all ∧ (ref = (q.2.1 k).1 ∨ Cond.sameField ref (q.2.1 k).1 (q.2.1 k).2.1 (q.2.1 k).2.2.1 ∈ lw_all))) : POK own nm idx [c] k ty := by
  intro c' hc
  rw [List.mem_singleton.mp hc]
  exact ⟨h100, q.1, q.2.1, q.2.2, hcg, hk, hF, hp, hnm, hfin⟩
theorem POK.cons {own nm : String} {idx c k : Nat} {cs : List Nat} {ty : FieldType} {q : vw_C} (h100 : c < 100) (hcg : cg[c]? = some q) (hk : k < q.2.2) (hF : FL own idx (q.2.1 k)) (hp : cgty c k = ty) (hnm : ∀ j, j < q.2.2 → j ≠ k → (q.2.1 j).2.1 ≠ (q.2.1 k).2.1) (hfin : (q.2.1 k).2.2.2 = false ∨ ((q.2.1 k).2.2.2 = true ∧ nm = "<init>" ∧ (q.2.1 k).1 = own ∧ ∃ ref, Cond.fieldLink own idx ref (q.2.1 k).2.1 (q.2.1 k).2.2.1 ∈ lw_all ∧ (ref = (q.2.1 k).1 ∨ Cond.sameField ref (q.2.1 k).1 (q.2.1 k).2.1 (q.2.1 k).2.2.1 ∈ lw_all))) (h : POK own nm idx cs k ty) : POK own nm idx (c :: cs) k ty := by
  intro c' hc
  rcases List.mem_cons.mp hc with e | e
  · rw [e]
    exact ⟨h100, q.1, q.2.1, q.2.2, hcg, hk, hF, hp, hnm, hfin⟩
  · exact h c' e
def FUEL : Nat := 100000
theorem retV {σ q : Hp} (h : some σ = some q) : ((Sum.inr none, σ) : (Nat ⊕ Option Value) × Hp) = (Sum.inr none, q) := by cases h; rfl
theorem retI {x : Int32} {σ : Hp} {q : Int32 × Hp} (h : some (x, σ) = some q) : ((Sum.inr (some (.int x)), σ) : (Nat ⊕ Option Value) × Hp) = (Sum.inr (some (.int q.1)), q.2) := by cases h; rfl
theorem retL {x : Int64} {σ : Hp} {q : Int64 × Hp} (h : some (x, σ) = some q) : ((Sum.inr (some (.long x)), σ) : (Nat ⊕ Option Value) × Hp) = (Sum.inr (some (.long q.1)), q.2) := by cases h; rfl
theorem retR {x : Option Nat} {σ : Hp} {q : Option Nat × Hp} (h : some (x, σ) = some q) : ((Sum.inr (some (va_rf x)), σ) : (Nat ⊕ Option Value) × Hp) = (Sum.inr (some (va_rf q.1)), q.2) := by cases h; rfl
theorem retZ {x : Int32} {σ : Hp} {q : Int32 × Hp} (h : rZ x σ = some q) : ((Sum.inr (some (.int x)), σ) : (Nat ⊕ Option Value) × Hp) = (Sum.inr (some (.int q.1)), q.2) := by
  obtain ⟨-, rfl⟩ := ite_some h
  rfl
section JC
variable {γ : GP} {μ μ1 : MP} {φ : FP} {σ σ1 : Hp} {pc : Nat} {l : LVs} {st rest As : List Value} {idx na k9 b c9 : Nat} {y : MethodName} {r : Option Nat}
theorem J_oI {k : Nat} (hb : r = some b) (hl : Cond.methodLink μ.2.1 idx Lib.objectInit ∈ lw_all) (hd : 1 ≤ μ.2.2.2.2.1) (hcs : cs st k) (hk : k ≤ 8) (n : Nat) (d : decode μ.1 pc = .ok (.invokespecial idx, 3)) (e : pc + 3 = n) (k9 : J γ μ φ σ n l st) : J γ μ φ σ pc l (va_rf r :: st) := by
  subst hb
  exact J_objInit hl hd hcs hk n d e k9
theorem J_cI (n : Nat) (d : decode μ.1 pc = .ok (.invokespecial idx, 3)) (e : pc + 3 = n) (hy : YK y μ1 na) (hret : μ1.2.2.2.1 = none) (hl : LK μ.2.1 idx y) (hin : Cond.instanceMethod y ∈ lw_all) (hy1 : y.name = "<init>") (hd : μ1.2.2.2.2.1 + 1 ≤ μ.2.2.2.2.1) (hcs : cs rest k9) (hk : k9 ≤ 8) (As : List Value) (hb : r = some b) (hn : As.length = na) (hst : st = As.reverse ++ va_rf r :: rest) (hR : Rn γ μ1 y (va_rf r :: As) (σ, .inr none, σ1)) (k : J γ μ φ σ1 n l rest) : J γ μ φ σ pc l st := by
  subst hb
  exact J_callI n d e hy hret hl hin hy1 hd hcs hk hn hst hR k
theorem J_cVi {x : Int32} {q : vw_C} (n : Nat) (d : decode μ.1 pc = .ok (.invokevirtual idx, 3)) (e : pc + 3 = n) (hy : YK y μ1 na) (hl : LK μ.2.1 idx y) (hin : Cond.instanceMethod y ∈ lw_all) (hsel : Cond.selects q.1 y y ∈ lw_all) (hd : μ1.2.2.2.2.1 + 1 ≤ μ.2.2.2.2.1) (hcs : cs rest k9) (hk : k9 ≤ 8) (As : List Value) (hb : cT σ r c9 = some b) (h100 : c9 < 100) (hcg : cg[c9]? = some q) (hn : As.length = na) (hst : st = As.reverse ++ va_rf r :: rest) (hR : Rn γ μ1 y (va_rf r :: As) (σ, .inr (some (.int x)), σ1)) (k : J γ μ φ σ1 n l (.int x :: rest)) : J γ μ φ σ pc l st := by
  obtain ⟨rfl, ht⟩ := cT_of hb
  subst ht
  exact J_callV n d e hy hl hin hsel hd hcs hk h100 hcg hn hst hR k
theorem J_cSi {x : Int32} (n : Nat) (d : decode μ.1 pc = .ok (.invokestatic idx, 3)) (e : pc + 3 = n) (hy : YK y μ1 na) (hl : LK μ.2.1 idx y) (hstt : Cond.static y ∈ lw_all) (hd : μ1.2.2.2.2.1 + 1 ≤ μ.2.2.2.2.1) (hcs : cs rest k9) (hk : k9 ≤ 8) (As : List Value) (hn : As.length = na) (hst : st = As.reverse ++ rest) (hR : Rn γ μ1 y As (σ, .inr (some (.int x)), σ1)) (k : J γ μ φ σ1 n l (.int x :: rest)) : J γ μ φ σ pc l st :=
  J_callS n d e hy hl hstt hd hcs hk hn hst hR k
theorem J_cVl {x : Int64} {q : vw_C} (n : Nat) (d : decode μ.1 pc = .ok (.invokevirtual idx, 3)) (e : pc + 3 = n) (hy : YK y μ1 na) (hl : LK μ.2.1 idx y) (hin : Cond.instanceMethod y ∈ lw_all) (hsel : Cond.selects q.1 y y ∈ lw_all) (hd : μ1.2.2.2.2.1 + 1 ≤ μ.2.2.2.2.1) (hcs : cs rest k9) (hk : k9 ≤ 8) (As : List Value) (hb : cT σ r c9 = some b) (h100 : c9 < 100) (hcg : cg[c9]? = some q) (hn : As.length = na) (hst : st = As.reverse ++ va_rf r :: rest) (hR : Rn γ μ1 y (va_rf r :: As) (σ, .inr (some (.long x)), σ1)) (k : J γ μ φ σ1 n l (.long x :: rest)) : J γ μ φ σ pc l st := by
  obtain ⟨rfl, ht⟩ := cT_of hb
  subst ht
  exact J_callV n d e hy hl hin hsel hd hcs hk h100 hcg hn hst hR k
theorem J_cSl {x : Int64} (n : Nat) (d : decode μ.1 pc = .ok (.invokestatic idx, 3)) (e : pc + 3 = n) (hy : YK y μ1 na) (hl : LK μ.2.1 idx y) (hstt : Cond.static y ∈ lw_all) (hd : μ1.2.2.2.2.1 + 1 ≤ μ.2.2.2.2.1) (hcs : cs rest k9) (hk : k9 ≤ 8) (As : List Value) (hn : As.length = na) (hst : st = As.reverse ++ rest) (hR : Rn γ μ1 y As (σ, .inr (some (.long x)), σ1)) (k : J γ μ φ σ1 n l (.long x :: rest)) : J γ μ φ σ pc l st :=
  J_callS n d e hy hl hstt hd hcs hk hn hst hR k
theorem J_cVr {x : Option Nat} {q : vw_C} (n : Nat) (d : decode μ.1 pc = .ok (.invokevirtual idx, 3)) (e : pc + 3 = n) (hy : YK y μ1 na) (hl : LK μ.2.1 idx y) (hin : Cond.instanceMethod y ∈ lw_all) (hsel : Cond.selects q.1 y y ∈ lw_all) (hd : μ1.2.2.2.2.1 + 1 ≤ μ.2.2.2.2.1) (hcs : cs rest k9) (hk : k9 ≤ 8) (As : List Value) (hb : cT σ r c9 = some b) (h100 : c9 < 100) (hcg : cg[c9]? = some q) (hn : As.length = na) (hst : st = As.reverse ++ va_rf r :: rest) (hR : Rn γ μ1 y (va_rf r :: As) (σ, .inr (some (va_rf x)), σ1)) (k : J γ μ φ σ1 n l (va_rf x :: rest)) : J γ μ φ σ pc l st := by
  obtain ⟨rfl, ht⟩ := cT_of hb
  subst ht
  exact J_callV n d e hy hl hin hsel hd hcs hk h100 hcg hn hst hR k
theorem J_cSr {x : Option Nat} (n : Nat) (d : decode μ.1 pc = .ok (.invokestatic idx, 3)) (e : pc + 3 = n) (hy : YK y μ1 na) (hl : LK μ.2.1 idx y) (hstt : Cond.static y ∈ lw_all) (hd : μ1.2.2.2.2.1 + 1 ≤ μ.2.2.2.2.1) (hcs : cs rest k9) (hk : k9 ≤ 8) (As : List Value) (hn : As.length = na) (hst : st = As.reverse ++ rest) (hR : Rn γ μ1 y As (σ, .inr (some (va_rf x)), σ1)) (k : J γ μ φ σ1 n l (va_rf x :: rest)) : J γ μ φ σ pc l st :=
  J_callS n d e hy hl hstt hd hcs hk hn hst hR k
theorem J_cVv  {q : vw_C} (n : Nat) (d : decode μ.1 pc = .ok (.invokevirtual idx, 3)) (e : pc + 3 = n) (hy : YK y μ1 na) (hl : LK μ.2.1 idx y) (hin : Cond.instanceMethod y ∈ lw_all) (hsel : Cond.selects q.1 y y ∈ lw_all) (hd : μ1.2.2.2.2.1 + 1 ≤ μ.2.2.2.2.1) (hcs : cs rest k9) (hk : k9 ≤ 8) (As : List Value) (hb : cT σ r c9 = some b) (h100 : c9 < 100) (hcg : cg[c9]? = some q) (hn : As.length = na) (hst : st = As.reverse ++ va_rf r :: rest) (hR : Rn γ μ1 y (va_rf r :: As) (σ, .inr (none), σ1)) (k : J γ μ φ σ1 n l (rest)) : J γ μ φ σ pc l st := by
  obtain ⟨rfl, ht⟩ := cT_of hb
  subst ht
  exact J_callV n d e hy hl hin hsel hd hcs hk h100 hcg hn hst hR k
theorem J_cSv  (n : Nat) (d : decode μ.1 pc = .ok (.invokestatic idx, 3)) (e : pc + 3 = n) (hy : YK y μ1 na) (hl : LK μ.2.1 idx y) (hstt : Cond.static y ∈ lw_all) (hd : μ1.2.2.2.2.1 + 1 ≤ μ.2.2.2.2.1) (hcs : cs rest k9) (hk : k9 ≤ 8) (As : List Value) (hn : As.length = na) (hst : st = As.reverse ++ rest) (hR : Rn γ μ1 y As (σ, .inr (none), σ1)) (k : J γ μ φ σ1 n l (rest)) : J γ μ φ σ pc l st :=
  J_callS n d e hy hl hstt hd hcs hk hn hst hR k
end JC
