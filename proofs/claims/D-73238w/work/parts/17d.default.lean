set_option maxRecDepth 100000
/-! ROWS: calls through an interface that end in its own method -/
def ndf : List Cond := flatC (Jvm.Cond.and given_1 narrow_1)
theorem GOK.nd {γ : GP} (h : GOK γ) {w : Cond} (hw : w ∈ ndf) : w.before #[Value.ref (gb γ)] (gs γ) = true := flat_of_before _ h.2.2.2.1 w hw
def UD (γ : GP) (D : Nat) (x : MethodName) (na : Nat) (r : Option Nat) (As : List Value) (φ : FP) : Prop := ∃ (b : Nat) (q : vw_C) (y : MethodName) (μ1 : MP), r = some b ∧ htg φ.1 b < 100 ∧ cg[htg φ.1 b]? = some q ∧ YK y μ1 na ∧ Cond.landsInDefault q.1 x y ∈ ndf ∧ Cond.instanceMethod y ∈ lw_all ∧ μ1.2.2.2.2.1 ≤ D ∧ Rn γ μ1 y (va_rf r :: As) φ ∧ (Cond.declares x ∈ lw_tbl ∧ Cond.interfaceMethod x.cls x.cls x.name x.desc ∈ lw_tbl ∧ Cond.publicMethod y ∈ lw_tbl ∧ Cond.castable q.1 x.cls ∈ lw_tbl)
theorem UD.of {γ : GP} {D na c9 : Nat} {x y : MethodName} {r : Option Nat} {As : List Value} {φ : FP} {q : vw_C} {μ1 : MP} {b : Nat} (hb : cT φ.1 r c9 = some b) (h100 : c9 < 100) (hcg : cg[c9]? = some q) (hy : YK y μ1 na) (hs : Cond.landsInDefault q.1 x y ∈ ndf) (hi : Cond.instanceMethod y ∈ lw_all) (hD : μ1.2.2.2.2.1 ≤ D) (hF : Cond.declares x ∈ lw_tbl ∧ Cond.interfaceMethod x.cls x.cls x.name x.desc ∈ lw_tbl ∧ Cond.publicMethod y ∈ lw_tbl ∧ Cond.castable q.1 x.cls ∈ lw_tbl) (hR : Rn γ μ1 y (va_rf r :: As) φ) : UD γ D x na r As φ := by
  obtain ⟨h1, h2⟩ := cT_of hb
  subst h2
  exact ⟨b, q, y, μ1, h1, h100, hcg, hy, hs, hi, hD, hR, hF⟩
/-- through an interface, to either -/
def UG (γ : GP) (D : Nat) (x : MethodName) (na : Nat) (r : Option Nat) (As : List Value) (φ : FP) : Prop := UF γ D x na r As φ ∨ UD γ D x na r As φ
section JD
variable {γ : GP} {μ : MP} {φ : FP} {σ σ1 : Hp} {pc : Nat} {l : LVs} {st rest : List Value} {v : Option Value} {idx cnt na k9 D : Nat} {x : MethodName} {r : Option Nat}
theorem J_callD (n : Nat) (d : decode μ.1 pc = .ok (.invokeinterface idx cnt, 5)) (e : pc + 5 = n) (hl : Cond.methodLink μ.2.1 idx x ∈ lw_all) (hx : x.cls ≠ "java/lang/invoke/MethodHandle" ∧ x.cls ≠ "java/lang/invoke/VarHandle" ∧ (parseMethodDescriptor x.desc).map (fun d => d.parameters.length) = some na) (hd : D + 1 ≤ μ.2.2.2.2.1) (hcs : cs rest k9) (hk : k9 ≤ 8) (As : List Value) (hn : As.length = na) (hst : st = As.reverse ++ va_rf r :: rest) (hU : UD γ D x na r As (σ, .inr v, σ1)) (k : J γ μ φ σ1 n l (v.toList ++ rest)) : J γ μ φ σ pc l st := by
  subst hst
  obtain ⟨b, q, y, μ1, rfl, h100, hcg, hy, hsel, hin, hD, hR, hF1, hF2, hF3, hF4⟩ := hU
  refine J_run5 (a := (Value.ref b :: As).toArray) e hR.1 (fun p e R s m args below meth c K H locs cells slots ls hr9 hl9 hG hc hs => ?_) k
  have hsel' : (Cond.landsInDefault q.1 x y).before args s = true := (Cond.landsInDefault_setVm (args := args) (args' := #[Value.ref (gb γ)]) K.w.alike (State.methodFound?_setVm K.w.alike _ _ _)).trans (K.1.nd hsel)
  have hface : (Cond.interfaceMethod x.cls x.cls x.name x.desc).before args s = true ∧ (Cond.declares x).before args s = true ∧ (Cond.publicMethod y).before args s = true ∧ (Cond.castable q.1 x.cls).before args s = true := by
    obtain ⟨r9, meth9, hn9, -⟩ := Cond.declares_spec (K.1.1 _ hF1)
    have tr : ∀ {c : Cond}, c.onTables = true → c.before #[Value.ref (gb γ)] ((gs γ).setVm s.vm) = true → c.before args s = true := by
      intro c hc h
      have e := Cond.onTables_vm (A := args) (A' := #[Value.ref (gb γ)]) (U := s) (U' := gs γ) s.vm c hc
      have hU : s.setVm s.vm = s := rfl
      rw [hU] at e
      rw [e]
      exact h
    exact ⟨tr rfl (by rw [Cond.interfaceMethod_setVm K.w.alike (r := r9) hn9 ⟨hx.1, hx.2.1⟩]; exact K.1.1 _ hF2), tr rfl (by rw [Cond.declares_setVm K.w.alike]; exact K.1.1 _ hF1), tr rfl (by rw [Cond.publicMethod_setVm K.w.alike]; exact K.1.1 _ hF3), tr rfl (by rw [Cond.castable_setVm K.w.alike]; exact K.1.1 _ hF4)⟩
  obtain ⟨l1, l2⟩ := locW (φ1 := (σ, Sum.inr v, σ1)) hy.2.2.2.2.1 (show μ1.2.2.2.2.1 + 1 ≤ μ.2.2.2.2.1 by omega) K.rm
  intro T hT X
  have hB : Back (gl γ) R p e below s args y 5 8 (PreOf R (hsz σ1 - hsz σ) (hus σ1 - hus σ) (va_Pc (va_rf (some b) :: As) (Gd γ σ))) (PostOf (Qr γ v σ1) (hsz σ1 - hsz σ) (hus σ1 - hus σ) (gF γ)) :=
    back_of (bytes := μ1.1) (maxL := μ1.2.2.1) (ret := μ1.2.2.2.1) hR.2 Gd.blind rfl rfl l1 l2 (codeW K hy.1) List.mem_cons_self (fun a' U hW => codeW K hy.2.1 _ List.mem_cons_self a' U hW)
  have hcls := (K.k.1 _ q hcg).2
  obtain ⟨kC, hkC, -⟩ := hcls.2
  obtain ⟨cellB, hcB, hoB, hclB⟩ := recv9 K hr9.2.2.1 h100 hcg
  have hce : cellB.cls = (gD γ).1 (htg σ b) := Option.some.inj (hclB.symm.trans hcls.1)
  obtain ⟨v', vm₁, ⟨U', l2', c2, s2⟩, hW₁, X', ⟨g', mk, t, L, e1, e2, hq, h1, hL, h2, h3⟩, st9⟩ := X.interfaceBackD K.x K.o (K.wd hl) hface.2.1 hface.1 hsel' (K.wd hin) hface.2.2.1 hface.2.2.2 ⟨hx.1, hx.2.1⟩ hB hcls.1 hkC ⟨cellB, by rw [hT]; exact hcB, hce, by rw [hoB]⟩ (g := F0 m pc ls (As.reverse ++ va_rf (some b) :: rest)) rfl (by rw [K.ml]; exact hl9.1.1) (Steps.refl _) (argsL := As) (rest := rest) (fun sig h => by
      have h3 := hx.2.2
      rw [h] at h3
      exact hn.trans (Option.some.inj h3).symm) rfl (lroom hcs hk) (by rw [K.b]; exact d) (fun vm₁ hW => ⟨hc, hs, rfl, hG (T.setVm vm₁) hT hW⟩)
  dsimp only [Pt.U, Pt.locs, Pt.cells, Pt.slots] at X' e1 e2 h1 h2 h3 st9
  subst h1; subst h2; subst h3
  exact ⟨v', (T.setVm vm₁).calling g' mk (Value.ref b :: As).toArray, t, U', L, hT, X', hL, e1, e2, hq, fun target h => st9.trans h⟩
theorem J_cGi {z : Int32} (n : Nat) (d : decode μ.1 pc = .ok (.invokeinterface idx cnt, 5)) (e : pc + 5 = n) (hl : Cond.methodLink μ.2.1 idx x ∈ lw_all) (hx : x.cls ≠ "java/lang/invoke/MethodHandle" ∧ x.cls ≠ "java/lang/invoke/VarHandle" ∧ (parseMethodDescriptor x.desc).map (fun d => d.parameters.length) = some na) (hd : D + 1 ≤ μ.2.2.2.2.1) (hcs : cs rest k9) (hk : k9 ≤ 8) (As : List Value) (hn : As.length = na) (hst : st = As.reverse ++ va_rf r :: rest) (hU : UG γ D x na r As (σ, .inr (some (.int z)), σ1)) (k : J γ μ φ σ1 n l (.int z :: rest)) : J γ μ φ σ pc l st := by
  rcases hU with hU | hU
  · exact J_callF n d e hl hx hd hcs hk As hn hst hU k
  · exact J_callD n d e hl hx hd hcs hk As hn hst hU k
theorem J_cGl {z : Int64} (n : Nat) (d : decode μ.1 pc = .ok (.invokeinterface idx cnt, 5)) (e : pc + 5 = n) (hl : Cond.methodLink μ.2.1 idx x ∈ lw_all) (hx : x.cls ≠ "java/lang/invoke/MethodHandle" ∧ x.cls ≠ "java/lang/invoke/VarHandle" ∧ (parseMethodDescriptor x.desc).map (fun d => d.parameters.length) = some na) (hd : D + 1 ≤ μ.2.2.2.2.1) (hcs : cs rest k9) (hk : k9 ≤ 8) (As : List Value) (hn : As.length = na) (hst : st = As.reverse ++ va_rf r :: rest) (hU : UG γ D x na r As (σ, .inr (some (.long z)), σ1)) (k : J γ μ φ σ1 n l (.long z :: rest)) : J γ μ φ σ pc l st := by
  rcases hU with hU | hU
  · exact J_callF n d e hl hx hd hcs hk As hn hst hU k
  · exact J_callD n d e hl hx hd hcs hk As hn hst hU k
theorem J_cGr {z : Option Nat} (n : Nat) (d : decode μ.1 pc = .ok (.invokeinterface idx cnt, 5)) (e : pc + 5 = n) (hl : Cond.methodLink μ.2.1 idx x ∈ lw_all) (hx : x.cls ≠ "java/lang/invoke/MethodHandle" ∧ x.cls ≠ "java/lang/invoke/VarHandle" ∧ (parseMethodDescriptor x.desc).map (fun d => d.parameters.length) = some na) (hd : D + 1 ≤ μ.2.2.2.2.1) (hcs : cs rest k9) (hk : k9 ≤ 8) (As : List Value) (hn : As.length = na) (hst : st = As.reverse ++ va_rf r :: rest) (hU : UG γ D x na r As (σ, .inr (some (va_rf z)), σ1)) (k : J γ μ φ σ1 n l (va_rf z :: rest)) : J γ μ φ σ pc l st := by
  rcases hU with hU | hU
  · exact J_callF n d e hl hx hd hcs hk As hn hst hU k
  · exact J_callD n d e hl hx hd hcs hk As hn hst hU k
theorem J_cGv  (n : Nat) (d : decode μ.1 pc = .ok (.invokeinterface idx cnt, 5)) (e : pc + 5 = n) (hl : Cond.methodLink μ.2.1 idx x ∈ lw_all) (hx : x.cls ≠ "java/lang/invoke/MethodHandle" ∧ x.cls ≠ "java/lang/invoke/VarHandle" ∧ (parseMethodDescriptor x.desc).map (fun d => d.parameters.length) = some na) (hd : D + 1 ≤ μ.2.2.2.2.1) (hcs : cs rest k9) (hk : k9 ≤ 8) (As : List Value) (hn : As.length = na) (hst : st = As.reverse ++ va_rf r :: rest) (hU : UG γ D x na r As (σ, .inr (none), σ1)) (k : J γ μ φ σ1 n l (rest)) : J γ μ φ σ pc l st := by
  rcases hU with hU | hU
  · exact J_callF n d e hl hx hd hcs hk As hn hst hU k
  · exact J_callD n d e hl hx hd hcs hk As hn hst hU k
end JD
