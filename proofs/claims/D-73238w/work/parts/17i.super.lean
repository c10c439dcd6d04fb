set_option maxRecDepth 100000
/-! ROWS: super.m(..), instanceof -/
theorem lw_SU {own : String} {idx : Nat} {y : MethodName} {w : Cond} (h1 : Cond.methodLink own idx y ∈ lw_all) (h2 : Cond.sameMethod y.cls y.cls y.name y.desc ∈ lw_all) (h3 : Cond.superclass own y.cls ∈ lw_all) (h4 : Cond.instanceMethod y ∈ lw_all) (h5 : Cond.initialized y.cls ∈ lw_all) (h6 : w ∈ lw_all) : GoodIn lw_all (va_wsSU own idx y [w]) := by
  refine lw_app ?_ (fun z hz => by rw [List.mem_singleton.mp hz]; exact lw_self _ h6)
  intro w hw
  simp only [List.mem_cons, List.not_mem_nil, or_false] at hw
  rcases hw with e | e | e | e | e
  · rw [e]; exact h1
  · rw [e]; exact h2
  · rw [e]; exact h3
  · rw [e]; exact h4
  · rw [e]; exact h5
section JSU
variable {γ : GP} {μ μ1 : MP} {φ : FP} {σ σ1 : Hp} {pc : Nat} {l : LVs} {st rest : List Value} {idx na k9 b c9 : Nat} {y : MethodName} {r : Option Nat}
theorem J_callP {v : Option Value} {q : vw_C} (n : Nat) (d : decode μ.1 pc = .ok (.invokespecial idx, 3)) (e : pc + 3 = n) (hy : YK y μ1 na) (hl : Cond.methodLink μ.2.1 idx y ∈ lw_all) (hsame : Cond.sameMethod y.cls y.cls y.name y.desc ∈ lw_all) (hsup : Cond.superclass μ.2.1 y.cls ∈ lw_all) (hin : Cond.instanceMethod y ∈ lw_all) (hno : y.name ≠ "<init>") (hd : μ1.2.2.2.2.1 + 1 ≤ μ.2.2.2.2.1) (hcs : cs rest k9) (hk : k9 ≤ 8) (As : List Value) (hb : cT σ r c9 = some b) (h100 : c9 < 100) (hcg : cg[c9]? = some q) (hn : As.length = na) (hst : st = As.reverse ++ va_rf r :: rest) (hR : Rn γ μ1 y (va_rf r :: As) (σ, .inr v, σ1)) (k : J γ μ φ σ1 n l (v.toList ++ rest)) : J γ μ φ σ pc l st := by
  subst hst
  obtain ⟨rfl, ht⟩ := cT_of hb
  subst ht
  refine J_run (a := (Value.ref b :: As).toArray) e hR.1 (fun p e R s m args below meth c K H locs cells slots ls hr9 hl9 hG hc hs => ?_) k
  exact va_runSU (Ts := lw_all) (C := q.1) (b := b) (As := As) (K.k.1 _ q hcg).2 ⟨K.x, K.b, K.ml, K.o, fun w h => K.wd h⟩ hR.2 (va_cwSU na (fun w h => K.wd h) (lw_SU hl hsame hsup hin hy.2.1 hy.1) rfl rfl rfl ⟨hno, hy.2.2.2.1⟩ (locW (φ1 := (σ, .inr v, σ1)) hy.2.2.2.2.1 hd K.rm)) ⟨Gd.blind, recv9 K hr9.2.2.1 h100 hcg, fun U hU hW => ⟨rfl, hG U hU hW⟩⟩ rfl hn hl9.1.1 rfl (lroom hcs hk) d ⟨hc, hs⟩
theorem J_cPr {x : Option Nat} {q : vw_C} (n : Nat) (d : decode μ.1 pc = .ok (.invokespecial idx, 3)) (e : pc + 3 = n) (hy : YK y μ1 na) (hl : Cond.methodLink μ.2.1 idx y ∈ lw_all) (hsame : Cond.sameMethod y.cls y.cls y.name y.desc ∈ lw_all) (hsup : Cond.superclass μ.2.1 y.cls ∈ lw_all) (hin : Cond.instanceMethod y ∈ lw_all) (hno : y.name ≠ "<init>") (hd : μ1.2.2.2.2.1 + 1 ≤ μ.2.2.2.2.1) (hcs : cs rest k9) (hk : k9 ≤ 8) (As : List Value) (hb : cT σ r c9 = some b) (h100 : c9 < 100) (hcg : cg[c9]? = some q) (hn : As.length = na) (hst : st = As.reverse ++ va_rf r :: rest) (hR : Rn γ μ1 y (va_rf r :: As) (σ, .inr (some (va_rf x)), σ1)) (k : J γ μ φ σ1 n l (va_rf x :: rest)) : J γ μ φ σ pc l st :=
  J_callP n d e hy hl hsame hsup hin hno hd hcs hk As hb h100 hcg hn hst hR k
theorem J_cPi {x : Int32} {q : vw_C} (n : Nat) (d : decode μ.1 pc = .ok (.invokespecial idx, 3)) (e : pc + 3 = n) (hy : YK y μ1 na) (hl : Cond.methodLink μ.2.1 idx y ∈ lw_all) (hsame : Cond.sameMethod y.cls y.cls y.name y.desc ∈ lw_all) (hsup : Cond.superclass μ.2.1 y.cls ∈ lw_all) (hin : Cond.instanceMethod y ∈ lw_all) (hno : y.name ≠ "<init>") (hd : μ1.2.2.2.2.1 + 1 ≤ μ.2.2.2.2.1) (hcs : cs rest k9) (hk : k9 ≤ 8) (As : List Value) (hb : cT σ r c9 = some b) (h100 : c9 < 100) (hcg : cg[c9]? = some q) (hn : As.length = na) (hst : st = As.reverse ++ va_rf r :: rest) (hR : Rn γ μ1 y (va_rf r :: As) (σ, .inr (some (.int x)), σ1)) (k : J γ μ φ σ1 n l (.int x :: rest)) : J γ μ φ σ pc l st :=
  J_callP n d e hy hl hsame hsup hin hno hd hcs hk As hb h100 hcg hn hst hR k
theorem J_inst {q : vw_C} (hb : cT σ r c9 = some b) (h100 : c9 < 100) (hcg : cg[c9]? = some q) (hcl : Cond.classLink μ.2.1 idx q.1 ∈ lw_all) (n : Nat) (d : decode μ.1 pc = .ok (.instanceof idx, 3)) (e : pc + 3 = n) (k9 : J γ μ φ σ n l (.int 1 :: st)) : J γ μ φ σ pc l (va_rf r :: st) := by
  subst e
  obtain ⟨rfl, ht⟩ := cT_of hb
  subst ht
  refine J.st (fun p e R s m args below meth c Q K H locs cells slots ls hr9 hl9 w => ?_) k9
  have hat := hr9.2.2.1 b (by omega)
  rw [cel_o h100] at hat
  obtain ⟨r', hr', cell, g1, g2, g3, -⟩ := hat
  have hcls := (K.k.1 _ q hcg).2
  exact va_instS K.x K.b K.o (K.wd hcl) hcls ⟨cell, g1, by rw [g3]; rfl, by rw [g2]; exact hcls.1⟩ d w
theorem J_castB (hb : cT σ r 102 = some b) (hcl : Cond.classLink μ.2.1 idx "[B" ∈ lw_all) (n : Nat) (d : decode μ.1 pc = .ok (.checkcast idx, 3)) (e : pc + 3 = n) (k9 : J γ μ φ σ n l (va_rf r :: st)) : J γ μ φ σ pc l (va_rf r :: st) := by
  subst e
  obtain ⟨rfl, ht⟩ := cT_of hb
  refine J.st (fun p e R s m args below meth c Q K H locs cells slots ls hr9 hl9 w => ?_) k9
  have hat := hr9.2.2.1 b (by omega)
  rw [cel_a (t := 2) (by omega)] at hat
  have h0 : va_RA s (gA γ 2) .byte := (K.k.2 2 _ (tyl_at _ (by decide))).2
  have h1 : s.vm.findClass ("[" ++ FieldType.byte.toString) = some (gA γ 2) := h0
  have e0 : "[" ++ FieldType.byte.toString = "[B" := by decide
  rw [e0] at h1
  exact va_castA K.x K.b K.o (K.wd hcl) (va_P1 hat) 0 rfl h1 d w
end JSU
