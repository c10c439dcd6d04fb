set_option maxRecDepth 100000
/-! ROWS: Math, casts, calls that a class answers -/
def imax (x y : Int32) : Int32 := if x < y then y else x
def imin (x y : Int32) : Int32 := if y < x then y else x
def lmax (x y : Int64) : Int64 := if y < x then x else y
def lmin (x y : Int64) : Int64 := if y < x then y else x
section JMa
variable {γ : GP} {μ : MP} {φ : FP} {σ : Hp} {pc : Nat} {l : LVs} {st : List Value} {idx k : Nat}
theorem Rl.room {p : Program} {R : Room} {s : State} {m : MethodId} {meth : Method} {c : Code} {H : Heap} {locs : List Loc} {cells slots : Nat} (K : KOK γ μ φ p R s m meth c) (hr9 : Rl γ s (hus φ.1) σ H locs cells slots) (hm : hsz σ ≤ hsz φ.2.2 ∧ hus σ ≤ hus φ.2.2) : cells ≤ R.cells ∧ slots ≤ R.slots := by
  have h1 := hr9.2.2.2.2.1
  have h2 := hr9.2.2.2.2.2.1
  have h3 := K.sz
  rw [K.rm]
  show cells ≤ hsz φ.2.2 - hsz φ.1 ∧ slots ≤ hus φ.2.2 - hus φ.1
  omega
theorem J_mmaxI {x y : Int32} (hl : Cond.methodLink μ.2.1 idx Lib.Math.max.name ∈ lw_all) (hd : 1 ≤ μ.2.2.2.2.1) (hcs : cs st k) (hk : k ≤ 8) (n : Nat) (d : decode μ.1 pc = .ok (.invokestatic idx, 3)) (e : pc + 3 = n) (k9 : J γ μ φ σ n l (.int (imax x y) :: st)) : J γ μ φ σ pc l (.int y :: .int x :: st) := by
  subst e
  have hcat : (st.map fun v => v.category).sum ≤ k := hcs
  refine J.st (fun p e R s m args below meth c Q K H locs cells slots ls hr9 hl9 w => ?_) k9
  have hrm := Rl.room K hr9 k9.1
  exact va_mmax K.x K.b (by rw [K.ml]; exact hl9.1.1.symm) K.o (K.wd hl) (K.wd q741) (K.wd q141) (K.wd q742) (by rw [K.rm]; exact hd) (by rw [K.rm]; show _ ≤ 64 * μ.2.2.2.2.1; omega) hrm.1 hrm.2 d w
theorem J_mminI {x y : Int32} (hl : Cond.methodLink μ.2.1 idx Lib.Math.min.name ∈ lw_all) (hd : 1 ≤ μ.2.2.2.2.1) (hcs : cs st k) (hk : k ≤ 8) (n : Nat) (d : decode μ.1 pc = .ok (.invokestatic idx, 3)) (e : pc + 3 = n) (k9 : J γ μ φ σ n l (.int (imin x y) :: st)) : J γ μ φ σ pc l (.int y :: .int x :: st) := by
  subst e
  have hcat : (st.map fun v => v.category).sum ≤ k := hcs
  refine J.st (fun p e R s m args below meth c Q K H locs cells slots ls hr9 hl9 w => ?_) k9
  have hrm := Rl.room K hr9 k9.1
  exact va_mmin K.x K.b (by rw [K.ml]; exact hl9.1.1.symm) K.o (K.wd hl) (K.wd q635) (K.wd q141) (K.wd q636) (by rw [K.rm]; exact hd) (by rw [K.rm]; show _ ≤ 64 * μ.2.2.2.2.1; omega) hrm.1 hrm.2 d w
theorem J_mmaxL {x y : Int64} (hl : Cond.methodLink μ.2.1 idx Lib.MathLoose.max_long.x ∈ lw_all) (hd : 1 ≤ μ.2.2.2.2.1) (hcs : cs st k) (hk : k ≤ 8) (n : Nat) (d : decode μ.1 pc = .ok (.invokestatic idx, 3)) (e : pc + 3 = n) (k9 : J γ μ φ σ n l (.long (lmax x y) :: st)) : J γ μ φ σ pc l (.long y :: .long x :: st) := by
  subst e
  have hcat : (st.map fun v => v.category).sum ≤ k := hcs
  refine J.st (fun p e R s m args below meth c Q K H locs cells slots ls hr9 hl9 w => ?_) k9
  have hrm := Rl.room K hr9 k9.1
  exact va_mmax_long K.x K.b (by rw [K.ml]; exact hl9.1.1.symm) K.o (K.wd hl) (K.wd q611) (K.wd q141) (K.wd q612) (by rw [K.rm]; exact hd) (by rw [K.rm]; show _ ≤ 64 * μ.2.2.2.2.1; omega) hrm.1 hrm.2 d w
theorem J_mminL {x y : Int64} (hl : Cond.methodLink μ.2.1 idx Lib.MathLoose.min_long.x ∈ lw_all) (hd : 1 ≤ μ.2.2.2.2.1) (hcs : cs st k) (hk : k ≤ 8) (n : Nat) (d : decode μ.1 pc = .ok (.invokestatic idx, 3)) (e : pc + 3 = n) (k9 : J γ μ φ σ n l (.long (lmin x y) :: st)) : J γ μ φ σ pc l (.long y :: .long x :: st) := by
  subst e
  have hcat : (st.map fun v => v.category).sum ≤ k := hcs
  refine J.st (fun p e R s m args below meth c Q K H locs cells slots ls hr9 hl9 w => ?_) k9
  have hrm := Rl.room K hr9 k9.1
  exact va_mmin_long K.x K.b (by rw [K.ml]; exact hl9.1.1.symm) K.o (K.wd hl) (K.wd q608) (K.wd q141) (K.wd q609) (by rw [K.rm]; exact hd) (by rw [K.rm]; show _ ≤ 64 * μ.2.2.2.2.1; omega) hrm.1 hrm.2 d w
/-- a cast of an object of class c9 to its own class -/
theorem J_cast {r : Option Nat} {b c9 : Nat} {q : vw_C} (hb : cT σ r c9 = some b) (h100 : c9 < 100) (hcg : cg[c9]? = some q) (hcl : Cond.classLink μ.2.1 idx q.1 ∈ lw_all) (n : Nat) (d : decode μ.1 pc = .ok (.checkcast idx, 3)) (e : pc + 3 = n) (k9 : J γ μ φ σ n l (va_rf r :: st)) : J γ μ φ σ pc l (va_rf r :: st) := by
  subst e
  obtain ⟨rfl, ht⟩ := cT_of hb
  subst ht
  refine J.st (fun p e R s m args below meth c Q K H locs cells slots ls hr9 hl9 w => ?_) k9
  have hat := hr9.2.2.1 b (by omega)
  rw [cel_o h100] at hat
  obtain ⟨r', hr', cell, g1, g2, g3, -⟩ := hat
  have hcls := (K.k.1 _ q hcg).2
  exact va_castS K.x K.b K.o (K.wd hcl) hcls ⟨cell, g1, by rw [g3]; rfl, by rw [g2]; exact hcls.1⟩ d w
end JMa
/-! a call that the receiver's class answers: x is asked, y answers -/
def UR (γ : GP) (D : Nat) (x : MethodName) (na : Nat) (r : Option Nat) (As : List Value) (φ : FP) : Prop := ∃ (b : Nat) (q : vw_C) (y : MethodName) (μ1 : MP), r = some b ∧ htg φ.1 b < 100 ∧ cg[htg φ.1 b]? = some q ∧ YK y μ1 na ∧ Cond.selects q.1 x y ∈ lw_all ∧ Cond.instanceMethod y ∈ lw_all ∧ μ1.2.2.2.2.1 ≤ D ∧ Rn γ μ1 y (va_rf r :: As) φ
theorem UR.of {γ : GP} {D na c9 : Nat} {x y : MethodName} {r : Option Nat} {As : List Value} {φ : FP} {q : vw_C} {μ1 : MP} {b : Nat} (hb : cT φ.1 r c9 = some b) (h100 : c9 < 100) (hcg : cg[c9]? = some q) (hy : YK y μ1 na) (hs : Cond.selects q.1 x y ∈ lw_all) (hi : Cond.instanceMethod y ∈ lw_all) (hD : μ1.2.2.2.2.1 ≤ D) (hR : Rn γ μ1 y (va_rf r :: As) φ) : UR γ D x na r As φ := by
  obtain ⟨h1, h2⟩ := cT_of hb
  subst h2
  exact ⟨b, q, y, μ1, h1, h100, hcg, hy, hs, hi, hD, hR⟩
theorem lw_U {own C owner : String} {idx : Nat} {x y : MethodName} {w : Cond} (h1 : Cond.methodLink own idx x ∈ lw_all) (h2 : Cond.sameMethod x.cls owner x.name x.desc ∈ lw_all) (h3 : Cond.selects C x y ∈ lw_all) (h4 : Cond.instanceMethod y ∈ lw_all) (h5 : Cond.initialized y.cls ∈ lw_all) (h6 : w ∈ lw_all) : GoodIn lw_all (va_wsU own idx C owner x y [w]) := by
  refine lw_app ?_ (fun z hz => by rw [List.mem_singleton.mp hz]; exact lw_self _ h6)
  intro w hw
  simp only [List.mem_cons, List.not_mem_nil, or_false] at hw
  rcases hw with e | e | e | e | e
  · rw [e]; exact h1
  · rw [e]; exact h2
  · rw [e]; exact h3
  · rw [e]; exact h4
  · rw [e]; exact h5
section JU
variable {γ : GP} {μ : MP} {φ : FP} {σ σ1 : Hp} {pc : Nat} {l : LVs} {st rest : List Value} {v : Option Value} {idx na k9 D : Nat} {x : MethodName} {r : Option Nat} {owner : String}
theorem J_callU (n : Nat) (d : decode μ.1 pc = .ok (.invokevirtual idx, 3)) (e : pc + 3 = n) (hl : Cond.methodLink μ.2.1 idx x ∈ lw_all) (hsame : Cond.sameMethod x.cls owner x.name x.desc ∈ lw_all) (hz : Cond.declares ⟨owner, x.name, x.desc⟩ ∈ lw_tbl) (hx : owner ≠ "java/lang/invoke/MethodHandle" ∧ owner ≠ "java/lang/invoke/VarHandle" ∧ (parseMethodDescriptor x.desc).map (fun d => d.parameters.length) = some na) (hd : D + 1 ≤ μ.2.2.2.2.1) (hcs : cs rest k9) (hk : k9 ≤ 8) (As : List Value) (hn : As.length = na) (hst : st = As.reverse ++ va_rf r :: rest) (hU : UR γ D x na r As (σ, .inr v, σ1)) (k : J γ μ φ σ1 n l (v.toList ++ rest)) : J γ μ φ σ pc l st := by
  subst hst
  obtain ⟨b, q, y, μ1, rfl, h100, hcg, hy, hsel, hin, hD, hR⟩ := hU
  refine J_run (a := (Value.ref b :: As).toArray) e hR.1 (fun p e R s m args below meth c K H locs cells slots ls hr9 hl9 hG hc hs => ?_) k
  have hz' : va_Nw (.declares ⟨owner, x.name, x.desc⟩) s := va_Nw.warmD K.w (va_Nw.of rfl (K.1.1 _ hz))
  exact va_runU (Ts := lw_all) (C := q.1) (b := b) (As := As) ⟨K.x, K.b, K.ml, K.o, fun w h => K.wd h⟩ hR.2 (va_cwA na (fun w h => K.wd h) (lw_U hl hsame hsel hin hy.2.1 hy.1) rfl rfl rfl hz' hx (locW (φ1 := (σ, .inr v, σ1)) hy.2.2.2.2.1 (by omega) K.rm)) ⟨Gd.blind, recv9 K hr9.2.2.1 h100 hcg, fun U hU hW => ⟨rfl, hG U hU hW⟩⟩ rfl hn hl9.1.1 rfl (lroom hcs hk) d ⟨hc, hs⟩
theorem J_cUi {z : Int32} (n : Nat) (d : decode μ.1 pc = .ok (.invokevirtual idx, 3)) (e : pc + 3 = n) (hl : Cond.methodLink μ.2.1 idx x ∈ lw_all) (hsame : Cond.sameMethod x.cls owner x.name x.desc ∈ lw_all) (hz : Cond.declares ⟨owner, x.name, x.desc⟩ ∈ lw_tbl) (hx : owner ≠ "java/lang/invoke/MethodHandle" ∧ owner ≠ "java/lang/invoke/VarHandle" ∧ (parseMethodDescriptor x.desc).map (fun d => d.parameters.length) = some na) (hd : D + 1 ≤ μ.2.2.2.2.1) (hcs : cs rest k9) (hk : k9 ≤ 8) (As : List Value) (hn : As.length = na) (hst : st = As.reverse ++ va_rf r :: rest) (hU : UR γ D x na r As (σ, .inr (some (.int z)), σ1)) (k : J γ μ φ σ1 n l (.int z :: rest)) : J γ μ φ σ pc l st :=
  J_callU n d e hl hsame hz hx hd hcs hk As hn hst hU k
theorem J_cUl {z : Int64} (n : Nat) (d : decode μ.1 pc = .ok (.invokevirtual idx, 3)) (e : pc + 3 = n) (hl : Cond.methodLink μ.2.1 idx x ∈ lw_all) (hsame : Cond.sameMethod x.cls owner x.name x.desc ∈ lw_all) (hz : Cond.declares ⟨owner, x.name, x.desc⟩ ∈ lw_tbl) (hx : owner ≠ "java/lang/invoke/MethodHandle" ∧ owner ≠ "java/lang/invoke/VarHandle" ∧ (parseMethodDescriptor x.desc).map (fun d => d.parameters.length) = some na) (hd : D + 1 ≤ μ.2.2.2.2.1) (hcs : cs rest k9) (hk : k9 ≤ 8) (As : List Value) (hn : As.length = na) (hst : st = As.reverse ++ va_rf r :: rest) (hU : UR γ D x na r As (σ, .inr (some (.long z)), σ1)) (k : J γ μ φ σ1 n l (.long z :: rest)) : J γ μ φ σ pc l st :=
  J_callU n d e hl hsame hz hx hd hcs hk As hn hst hU k
theorem J_cUr {z : Option Nat} (n : Nat) (d : decode μ.1 pc = .ok (.invokevirtual idx, 3)) (e : pc + 3 = n) (hl : Cond.methodLink μ.2.1 idx x ∈ lw_all) (hsame : Cond.sameMethod x.cls owner x.name x.desc ∈ lw_all) (hz : Cond.declares ⟨owner, x.name, x.desc⟩ ∈ lw_tbl) (hx : owner ≠ "java/lang/invoke/MethodHandle" ∧ owner ≠ "java/lang/invoke/VarHandle" ∧ (parseMethodDescriptor x.desc).map (fun d => d.parameters.length) = some na) (hd : D + 1 ≤ μ.2.2.2.2.1) (hcs : cs rest k9) (hk : k9 ≤ 8) (As : List Value) (hn : As.length = na) (hst : st = As.reverse ++ va_rf r :: rest) (hU : UR γ D x na r As (σ, .inr (some (va_rf z)), σ1)) (k : J γ μ φ σ1 n l (va_rf z :: rest)) : J γ μ φ σ pc l st :=
  J_callU n d e hl hsame hz hx hd hcs hk As hn hst hU k
theorem J_cUv  (n : Nat) (d : decode μ.1 pc = .ok (.invokevirtual idx, 3)) (e : pc + 3 = n) (hl : Cond.methodLink μ.2.1 idx x ∈ lw_all) (hsame : Cond.sameMethod x.cls owner x.name x.desc ∈ lw_all) (hz : Cond.declares ⟨owner, x.name, x.desc⟩ ∈ lw_tbl) (hx : owner ≠ "java/lang/invoke/MethodHandle" ∧ owner ≠ "java/lang/invoke/VarHandle" ∧ (parseMethodDescriptor x.desc).map (fun d => d.parameters.length) = some na) (hd : D + 1 ≤ μ.2.2.2.2.1) (hcs : cs rest k9) (hk : k9 ≤ 8) (As : List Value) (hn : As.length = na) (hst : st = As.reverse ++ va_rf r :: rest) (hU : UR γ D x na r As (σ, .inr (none), σ1)) (k : J γ μ φ σ1 n l (rest)) : J γ μ φ σ pc l st :=
  J_callU n d e hl hsame hz hx hd hcs hk As hn hst hU k
end JU
