set_option maxRecDepth 100000
/-! ROWS: exceptions. JT: q is thrown over the frame at pc -/
def JT (γ : GP) (μ : MP) (φ : FP) (σ : Hp) (pc : Nat) (l : LVs) (st : List Value) (q : Nat) : Prop :=
  (hsz σ ≤ hsz φ.2.2 ∧ hus σ ≤ hus φ.2.2) ∧ ∀ (p : Program) (e : Env) (R : Room) (s : State) (m : MethodId) (args : Array Value) (below : List Frame) (meth : Method) (c : Code), KOK γ μ φ p R s m meth c →
    ∀ (H : Heap) (locs : List Loc) (cells slots : Nat) (ls : Array Slot), Rl γ s (hus φ.1) σ H locs cells slots → LV ls μ.2.2.1 l → vy_W p (gl γ) e R s m args below meth c H locs cells slots (QJ γ φ below args s) (F0 m pc ls st) q
section JX
variable {γ : GP} {μ : MP} {φ : FP} {σ σ1 : Hp} {pc q : Nat} {l : LVs} {st rest : List Value}
theorem J_athrow {r : Option Nat} (hr : r = some q) (d : decode μ.1 pc = .ok (.athrow, 1)) (k : JT γ μ φ σ pc l st q) : J γ μ φ σ pc l (va_rf r :: st) := by
  subst hr
  exact ⟨k.1, fun p e R s m args below meth c K H locs cells slots ls hr9 hl => vy_athrow K.x K.b d (k.2 p e R s m args below meth c K H locs cells slots ls hr9 hl)⟩
/-- what is thrown is an object of a told class -/
theorem thr_cell {p : Program} {R : Room} {s : State} {m : MethodId} {meth : Method} {c : Code} {H : Heap} {locs : List Loc} {cells slots : Nat} (K : KOK γ μ φ p R s m meth c) (hr9 : Rl γ s (hus φ.1) σ H locs cells slots) (ht : htg σ q = 11) : ∃ ce : Cell, H[q]? = some ce ∧ ce.vm = .none ∧ s.vm.findClass (thE σ q) = some ce.cls := by
  have hat := hr9.2.2.1 q (by omega)
  rw [cel_o (by omega)] at hat
  obtain ⟨r', hr', cell, g1, g2, g3, -⟩ := hat
  refine ⟨cell, g1, g3, ?_⟩
  have hk := (K.k.1 11 _ rfl).2.1
  rw [g2]
  unfold thE
  rw [if_pos ht]
  show s.vm.findClass "MissCurves$Wrong" = some ((gD γ).1 (htg σ q))
  rw [ht]
  exact hk
theorem JT_out (hh : μ.2.2.2.2.2.2 = []) (ht : htg σ q = 11) (h : (Sum.inl q, σ) = φ.2) : JT γ μ φ σ pc l st q := by
  obtain ⟨σ0, o, σ9⟩ := φ
  cases h
  refine ⟨⟨Nat.le_refl _, Nat.le_refl _⟩, fun p e R s m args below meth c K H locs cells slots ls hr9 hl => ?_⟩
  obtain ⟨ce, c1, c2, c3⟩ := thr_cell K hr9 ht
  have h5 := hr9.2.2.2.2.1
  have h6 := hr9.2.2.2.2.2.1
  have hs0 := K.sz
  dsimp only at h6 hs0
  show vy_W p (gl γ) e R s m args below meth c H locs cells slots (vy_MQ below noQ (XQ γ q σ) args s (hsz σ - hsz σ0) (hus σ - hus σ0) (gF γ)) (F0 m pc ls st) q
  refine vy_out (E := thE σ q) (fun x hx => ?_) K.lk c1 c2 c3 (fun t ht9 hW => ⟨rfl, rfl, Gd.of K hr9 ht9 hW, hr9.2.2.2.1.F ht9⟩) hr9.2.2.2.1.2.2 (by omega) (by omega)
  rw [K.tb, hh] at hx
  cases hx
/-- a call that throws -/
theorem J_runT {a : Array Value} (hm : hsz σ ≤ hsz σ1 ∧ hus σ ≤ hus σ1)
    (h : ∀ (p : Program) (e : Env) (R : Room) (s : State) (m : MethodId) (args : Array Value) (below : List Frame) (meth : Method) (c : Code), KOK γ μ φ p R s m meth c → ∀ (H : Heap) (locs : List Loc) (cells slots : Nat) (ls : Array Slot), Rl γ s (hus φ.1) σ H locs cells slots → LV ls μ.2.2.1 l → (∀ U : State, U.heap = H → s.WarmedH U.vm → Gd γ σ U) → cells + (hsz σ1 - hsz σ) ≤ R.cells → slots + (hus σ1 - hus σ) ≤ R.slots →
      vy_Run p (gl γ) e R s m args below meth c H locs cells slots (hsz σ1 - hsz σ) (hus σ1 - hus σ) (F0 m pc ls st) rest (noQ a) (XQ γ q σ1) (gF γ))
    (k : JT γ μ φ σ1 pc l rest q) : J γ μ φ σ pc l st := by
  have k1 := k.1
  refine ⟨⟨by omega, by omega⟩, fun p e R s m args below meth c K H locs cells slots ls hr9 hl => ?_⟩
  have hr := hr9
  obtain ⟨g1, g2, g3, g4, g5, g6, g7⟩ := hr9
  have hrm := K.rm
  have hs0 := K.sz
  have hrun := h p e R s m args below meth c K H locs cells slots ls hr hl (fun U hU hW => Gd.of K hr hU hW) (by rw [hrm]; show _ ≤ hsz φ.2.2 - hsz φ.1; omega) (by rw [hrm]; show _ ≤ hus φ.2.2 - hus φ.1; omega)
  intro T hT X
  rcases hrun T hT X with ⟨v', st₀, t, T', L, h0, X', hL, e1, e2, hf, stp⟩ | ⟨q', st₀, t, T', L, E, ce, h0, X', hL, e1, e2, ⟨hE, hq', hg, hf⟩, hce, hcv, hcl, stp⟩
  · exact hf.elim
  subst hq'
  obtain ⟨f1, f2, f3, f4, f5, f6, f7⟩ := hg
  have hf1 := hf.1
  rw [h0] at hf1
  have hlo := K.lo
  have hold := K.old
  obtain ⟨t2, a1, b1⟩ := k.2 p e R s m args below meth c K T'.heap (locs ++ L) (cells + (hsz σ1 - hsz σ)) (slots + (hus σ1 - hus σ)) ls
    ⟨f2, by rw [e1]; exact f4, by rw [e1]; exact f5, ⟨by rw [e1]; exact Nat.le_trans g4.1 hf1, fun q h1 h2 => by
        have hq : q < (gs γ).heap.size := by
          rcases Nat.lt_or_ge q (gs γ).heap.size with z | z
          · exact z
          · exact absurd z h2
        rw [e1, f6 q hq, hold q hq], fun q hq => by
        rcases List.mem_append.mp hq with z | z
        · exact g4.2.2 q z
        · exact hL q z⟩, by omega, by omega, f7⟩ hl T' rfl X'
  exact ⟨t2, stp.trans a1, b1⟩
theorem J_mT {y : MethodName} {na : Nat} (hγ : GOK γ) (hy : YK y μ na) (hh0 : μ.2.2.2.2.2.2 = []) (ts : List (Nat × Value)) (hts : cats ts) (hlen : (ts.map (fun q => q.1)).sum ≤ μ.2.2.1) (body : J γ μ (σ, .inl q, σ1) σ 0 (lva 0 ts) []) : Rn γ μ y (ts.map (fun q => q.2)) (σ, .inl q, σ1) := by
  refine ⟨body.1, ?_⟩
  show vy_Met (gl γ) y [Cond.code y μ.1 μ.2.2.1 μ.2.2.2.1] _ _ _ _ _ _ _
  refine vy_ofW (cc := μ.1) (maxL := μ.2.2.1) (ret := μ.2.2.2.1) hy.2.2.2.2.2.1 rfl ?_
  intro p e s m args below meth c s₁ B hml htab hv
  obtain ⟨rfl, hg⟩ := hv
  obtain ⟨g1, g2, g3, g4, g5, g6, g7⟩ := hg
  rw [lg_entry_eq]
  have hown : s.vm.findClass μ.2.1 = some m.cls := by rw [hy.2.2.2.2.2.2.1]; exact findClass_of_methodNamed B.named
  have hnm : meth.name = μ.2.2.2.2.2.1 := by rw [hy.2.2.2.2.2.2.2]; exact (name_of_methodNamed B.named B.method).1
  have htb : c.exceptionTable.toList = tableOf μ.2.2.2.2.2.2 := by
    rw [hh0]
    cases hx : c.exceptionTable.toList with
    | nil => rfl
    | cons a t => exact (htab a (by rw [hx]; exact List.mem_cons_self)).elim
  have hl := lv_entry (ts.map (fun q => q.2)) (n := μ.2.2.1) (by rw [len_lg ts hts]; exact hlen)
  obtain ⟨u1, u2⟩ := unl_lva ts 0 hts
  rw [← u1] at hl
  dsimp only at g2 g3 g4 g5
  exact body.2 p e (rmO μ.2.2.2.2.1 (σ, .inl q, σ1)) s m _ below meth c ⟨hγ, B.exec, B.bytes, hml, B.returns, hown, B.notSynchronized, g1, by omega, g6, g4, rfl, hnm, htb⟩ s.heap [] 0 0 _ ⟨g2, g4, g5, va_S.rf, by omega, Nat.zero_add _, g7⟩ ⟨hl, u2⟩
end JX
section JXU
variable {γ : GP} {μ : MP} {φ : FP} {σ σ1 : Hp} {pc q0 : Nat} {l : LVs} {st rest : List Value} {idx na k9 D : Nat} {x : MethodName} {r : Option Nat} {owner : String}
theorem J_cUT (d : decode μ.1 pc = .ok (.invokevirtual idx, 3)) (hl : Cond.methodLink μ.2.1 idx x ∈ lw_all) (hsame : Cond.sameMethod x.cls owner x.name x.desc ∈ lw_all) (hz : Cond.declares ⟨owner, x.name, x.desc⟩ ∈ lw_tbl) (hx : owner ≠ "java/lang/invoke/MethodHandle" ∧ owner ≠ "java/lang/invoke/VarHandle" ∧ (parseMethodDescriptor x.desc).map (fun d => d.parameters.length) = some na) (hd : D + 1 ≤ μ.2.2.2.2.1) (hcs : cs rest k9) (hk : k9 ≤ 8) (As : List Value) (hn : As.length = na) (hst : st = As.reverse ++ va_rf r :: rest) (hU : UR γ D x na r As (σ, .inl q0, σ1)) (k : JT γ μ φ σ1 pc l rest q0) : J γ μ φ σ pc l st := by
  subst hst
  obtain ⟨b, q, y, μ1, rfl, h100, hcg, hy, hsel, hin, hD, hR⟩ := hU
  refine J_runT (a := (Value.ref b :: As).toArray) hR.1 (fun p e R s m args below meth c K H locs cells slots ls hr9 hl9 hG hc hs => ?_) k
  have hz' : va_Nw (.declares ⟨owner, x.name, x.desc⟩) s := va_Nw.warmD K.w (va_Nw.of rfl (K.1.1 _ hz))
  exact vy_runU (Ts := lw_all) (C := q.1) (b := b) (As := As) ⟨K.x, K.b, K.ml, K.o, fun w h => K.wd h⟩ hR.2 (va_cwA na (fun w h => K.wd h) (lw_U hl hsame hsel hin hy.2.1 hy.1) rfl rfl rfl hz' hx (locW (φ1 := (σ, .inl q0, σ1)) hy.2.2.2.2.1 (by omega) K.rm)) ⟨Gd.blind, recv9 K hr9.2.2.1 h100 hcg, fun U hU hW => ⟨rfl, hG U hU hW⟩⟩ rfl hn hl9.1.1 rfl (lroom hcs hk) d ⟨hc, hs⟩
variable {μ1 : MP} {y : MethodName} {b c9 : Nat}
theorem J_cVT {q : vw_C} (d : decode μ.1 pc = .ok (.invokevirtual idx, 3)) (hy : YK y μ1 na) (hl : LK μ.2.1 idx y) (hin : Cond.instanceMethod y ∈ lw_all) (hsel : Cond.selects q.1 y y ∈ lw_all) (hd : μ1.2.2.2.2.1 + 1 ≤ μ.2.2.2.2.1) (hcs : cs rest k9) (hk : k9 ≤ 8) (As : List Value) (hb : cT σ r c9 = some b) (h100 : c9 < 100) (hcg : cg[c9]? = some q) (hn : As.length = na) (hst : st = As.reverse ++ va_rf r :: rest) (hR : Rn γ μ1 y (va_rf r :: As) (σ, .inl q0, σ1)) (k : JT γ μ φ σ1 pc l rest q0) : J γ μ φ σ pc l st := by
  subst hst
  obtain ⟨rfl, ht⟩ := cT_of hb
  subst ht
  refine J_runT (a := (Value.ref b :: As).toArray) hR.1 (fun p e R s m args below meth c K H locs cells slots ls hr9 hl9 hG hc hs => ?_) k
  rcases hl with hl | ⟨host, hl⟩
  · exact vy_runV (Ts := lw_all) (C := q.1) (b := b) (As := As) ⟨K.x, K.b, K.ml, K.o, fun w h => K.wd h⟩ hR.2 ⟨callB9 (φ1 := (σ, .inl q0, σ1)) K hy hd hl, K.wd hin, K.wd hsel⟩ ⟨Gd.blind, recv9 K hr9.2.2.1 h100 hcg, fun U hU hW => ⟨rfl, hG U hU hW⟩⟩ rfl hn hl9.1.1 rfl (lroom hcs hk) d ⟨hc, hs⟩
  · exact vy_runVN (Ts := lw_all) (C := q.1) (b := b) (As := As) ⟨K.x, K.b, K.ml, K.o, fun w h => K.wd h⟩ hR.2 ⟨callN9 (φ1 := (σ, .inl q0, σ1)) K hy hd hl, K.wd hin, K.wd hsel⟩ ⟨Gd.blind, recv9 K hr9.2.2.1 h100 hcg, fun U hU hW => ⟨rfl, hG U hU hW⟩⟩ rfl hn hl9.1.1 rfl (lroom hcs hk) d ⟨hc, hs⟩
end JXU
