set_option maxRecDepth 100000
/-! ROWS: statics and String constants -/
section JZ
variable {γ : GP} {μ : MP} {φ : FP} {σ : Hp} {pc : Nat} {l : LVs} {st : List Value} {idx k : Nat}
theorem KOK.zk {p : Program} {R : Room} {s : State} {m : MethodId} {meth : Method} {c : Code} (K : KOK γ μ φ p R s m meth c) {C n d : String} {v : Value} (h : va_Z C n d v (gF γ) (gs γ) (gs γ).heap) : va_Z C n d v (gF γ) s s.heap :=
  (h.moved K.w.alike).kept (fun a ha _ => K.old a ha)
theorem J_gets {C f d : String} (hq : (k, C, f, d) ∈ stl) (hl : Cond.fieldLink μ.2.1 idx C f d ∈ lw_all) (n : Nat) (dd : decode μ.1 pc = .ok (.getstatic idx, 3)) (e : pc + 3 = n) (k9 : J γ μ φ σ n l (va_rf (hst σ k) :: st)) : J γ μ φ σ pc l st := by
  subst e
  refine J.st (fun p e R s m args below meth c Q K H locs cells slots ls hr9 hl9 w => ?_) k9
  have hZ := K.zk (K.1.2.2.2.2.1 _ hq)
  dsimp only at hZ
  rw [← hr9.2.2.2.2.2.2] at hZ
  exact va_gets K.x K.b hZ hr9.2.2.2.1 K.o (K.wd hl) (fun _ h => h) dd w
theorem J_getsI {C f d : String} {x : Int32} (hq : (C, f, d, x) ∈ sti) (hl : Cond.fieldLink μ.2.1 idx C f d ∈ lw_all) (n : Nat) (dd : decode μ.1 pc = .ok (.getstatic idx, 3)) (e : pc + 3 = n) (k9 : J γ μ φ σ n l (.int x :: st)) : J γ μ φ σ pc l st := by
  subst e
  refine J.st (fun p e R s m args below meth c Q K H locs cells slots ls hr9 hl9 w => ?_) k9
  have hZ := K.zk (K.1.2.2.2.2.2.1 _ hq)
  exact va_gets K.x K.b hZ hr9.2.2.2.1 K.o (K.wd hl) (fun _ h => h) dd w
theorem J_ldcS {tx : String} (hq : (k, μ.2.1, idx, tx) ∈ strl) (n : Nat) (d : decode μ.1 pc = .ok (.ldc idx, 2)) (e : pc + 2 = n) (k9 : J γ μ φ σ n l (va_rf (hst σ k) :: st)) : J γ μ φ σ pc l st := by
  subst e
  refine J.st (fun p e R s m args below meth c Q K H locs cells slots ls hr9 hl9 w => ?_) k9
  obtain ⟨a, ha, hZ⟩ := K.1.2.2.2.2.2.2.1 _ hq
  dsimp only at ha hZ
  rw [hr9.2.2.2.2.2.2, ha] at w
  exact va_ldcS K.x K.b K.o (hZ.warm K.w) d w
end JZ
/-! small types -/
def rN (ty : FieldType) (x : Int32) (σ : Hp) : Option (Int32 × Hp) := if vp_nar ty x = x then some (x, σ) else none
theorem retN {ty : FieldType} {x : Int32} {σ : Hp} {q : Int32 × Hp} (h : rN ty x σ = some q) : ((Sum.inr (some (.int x)), σ) : (Nat ⊕ Option Value) × Hp) = (Sum.inr (some (.int q.1)), q.2) := by
  obtain ⟨-, rfl⟩ := ite_some h
  rfl
def pB (σ : Hp) (r : Option Nat) (cs : List Nat) (k : Nat) (v : Int32) : Option Hp := r.bind fun a => if (htg σ a ∈ cs ∧ hlo σ ≤ a) ∧ (vp_nar .byte v = v ∧ fits .byte (.int v) = true) then some (wI σ a k v) else none
section JB
variable {γ : GP} {μ : MP} {φ : FP} {σ : Hp} {pc : Nat} {l : LVs} {st : List Value}
theorem J_nret {ty : FieldType} {x : Int32} (hr : μ.2.2.2.1 = some ty) (hx : vp_nar ty x = x) (hi : isI ty = true) (d : decode μ.1 pc = .ok (.ireturn, 1)) (h : (Sum.inr (some (.int x)), σ) = φ.2) : J γ μ φ σ pc l [.int x] :=
  J.rt h (fun p e R s m args below meth c H locs cells slots ls K hq hf => W.zret K.x K.b (K.rt.trans hr) (by rw [nar_I hi, hx]) hq hf d K.lk)
theorem J_pB {τ : Hp} {r : Option Nat} {idx k : Nat} {cs : List Nat} {v : Int32} (n : Nat) (d : decode μ.1 pc = .ok (.putfield idx, 3)) (e : pc + 3 = n) (hF : POK μ.2.1 μ.2.2.2.2.2.1 idx cs k .byte) (h : pB σ r cs k v = some τ) (k9 : J γ μ φ τ n l st) : J γ μ φ σ pc l (.int v :: va_rf r :: st) := by
  obtain ⟨a, rfl, h⟩ := some_of_bind h
  obtain ⟨⟨⟨hc, hla⟩, hv, hv2⟩, rfl⟩ := ite_some h
  exact J_putv (τ := wI σ a k v) n d e hF hc hla rfl rfl (fun b hb => cel_wI hb) (fun ht hk => flds_wI (by rw [ht]; rfl) hk) (by rw [nar_I rfl, hv]) hv2 k9
end JB
section JMir
variable {γ : GP} {μ : MP} {φ : FP} {σ : Hp} {pc : Nat} {l : LVs} {st : List Value} {idx k : Nat}
/-- Object[].class -/
theorem J_ldcM (hcl : Cond.classLink μ.2.1 idx "[Ljava/lang/Object;" ∈ lw_all) (n : Nat) (d : decode μ.1 pc = .ok (.ldc idx, 2)) (e : pc + 2 = n) (k9 : J γ μ φ σ n l (va_rf (hst σ 6) :: st)) : J γ μ φ σ pc l st := by
  subst e
  refine J.st (fun p e R s m args below meth c Q K H locs cells slots ls hr9 hl9 w => ?_) k9
  obtain ⟨mi, ha, hM⟩ := K.1.2.2.2.2.2.2.2
  rw [hr9.2.2.2.2.2.2, ha] at w
  exact va_ldcM K.x K.b K.o (K.wd hcl) (hM.moved K.w.alike) d w
/-- getClass of an array of objects -/
theorem J_getC {r : Option Nat} {b : Nat} (hb : cT σ r 115 = some b) (hl : Cond.methodLink μ.2.1 idx ⟨"java/lang/Object", "getClass", "()Ljava/lang/Class;"⟩ ∈ lw_all) (hd : 1 ≤ μ.2.2.2.2.1) (hcs : cs st k) (hk : k ≤ 8) (n : Nat) (d : decode μ.1 pc = .ok (.invokevirtual idx, 3)) (e : pc + 3 = n) (k9 : J γ μ φ σ n l (va_rf (hst σ 6) :: st)) : J γ μ φ σ pc l (va_rf r :: st) := by
  subst e
  obtain ⟨rfl, ht⟩ := cT_of hb
  have hcat : (st.map fun v => v.category).sum ≤ k := hcs
  refine J.st (fun p e R s m args below meth c Q K H locs cells slots ls hr9 hl9 w => ?_) k9
  obtain ⟨mi, ha, hM⟩ := K.1.2.2.2.2.2.2.2
  rw [hr9.2.2.2.2.2.2, ha] at w
  have hat := hr9.2.2.1 b (by omega)
  rw [cel_a (t := 15) ht, elts_R (by decide)] at hat
  have hko := K.k.2 15 _ (tyl_at _ (by decide))
  obtain ⟨_, _, _, _, _, hfc⟩ := hko.2
  exact va_getC (C := "[Ljava/lang/Object;") K.x K.b (by rw [K.ml]; exact hl9.1.1.symm) K.o (K.wd hl) (va_Nw.use rfl (va_Nw.warmD K.w (va_Nw.of rfl (K.1.1 _ q3046)))) (K.wd q3045) (K.wd q1517) (K.wd q1551) (hM.moved K.w.alike) ⟨_, hat, rfl, hfc⟩ (by rw [K.rm]; exact hd) (by rw [K.rm]; show _ ≤ 64 * μ.2.2.2.2.1; omega) d w
end JMir
