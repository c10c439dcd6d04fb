set_option maxRecDepth 100000
/-! HANDLERS, as the printed walks use them -/
def bC {T U : Type} (v : (Nat ⊕ T) × Hp) (t : Nat) (c : Nat → Option U) (k : T → Option U) : Option U :=
  match v.1 with
  | .inl a => if htg v.2 a = t then c a else none
  | .inr w => k w
theorem bC_of {T U : Type} {v : (Nat ⊕ T) × Hp} {t : Nat} {c : Nat → Option U} {k : T → Option U} {q : U} (h : bC v t c k = some q) : (∃ a, v.1 = .inl a ∧ htg v.2 a = t ∧ c a = some q) ∨ ∃ w, v.1 = .inr w ∧ k w = some q := by
  unfold bC at h
  cases hv : v.1 with
  | inl a =>
    rw [hv] at h
    dsimp only at h
    split at h
    · next ht => exact Or.inl ⟨a, rfl, ht, h⟩
    · cases h
  | inr w =>
    rw [hv] at h
    exact Or.inr ⟨w, rfl, h⟩
/-- thrown over the frame at pc, the cell of what is thrown being told -/
def JTE (γ : GP) (μ : MP) (φ : FP) (σ : Hp) (pc : Nat) (l : LVs) (st : List Value) (q : Nat) : Prop :=
  (hsz σ ≤ hsz φ.2.2 ∧ hus σ ≤ hus φ.2.2) ∧ ∀ (p : Program) (e : Env) (R : Room) (s : State) (m : MethodId) (args : Array Value) (below : List Frame) (meth : Method) (c : Code), KOK γ μ φ p R s m meth c →
    ∀ (H : Heap) (locs : List Loc) (cells slots : Nat) (ls : Array Slot), Rl γ s (hus φ.1) σ H locs cells slots → LV ls μ.2.2.1 l → (∃ ce : Cell, H[q]? = some ce ∧ ce.vm = .none ∧ s.vm.findClass (thE σ q) = some ce.cls) → vy_W p (gl γ) e R s m args below meth c H locs cells slots (QJ γ φ below args s) (F0 m pc ls st) q
section JCE
variable {γ : GP} {μ μ1 : MP} {φ : FP} {σ σ1 : Hp} {pc q : Nat} {l : LVs} {st rest : List Value}
theorem JTE_of (k : JT γ μ φ σ pc l st q) : JTE γ μ φ σ pc l st q := ⟨k.1, fun p e R s m args below meth c K H locs cells slots ls hr9 hl _ => k.2 p e R s m args below meth c K H locs cells slots ls hr9 hl⟩
theorem JTE_out (hh : μ.2.2.2.2.2.2 = []) (h : (Sum.inl q, σ) = φ.2) : JTE γ μ φ σ pc l st q := by
  obtain ⟨σ0, o, σ9⟩ := φ
  cases h
  refine ⟨⟨Nat.le_refl _, Nat.le_refl _⟩, fun p e R s m args below meth c K H locs cells slots ls hr9 hl hce => ?_⟩
  obtain ⟨ce, c1, c2, c3⟩ := hce
  have h5 := hr9.2.2.2.2.1
  have h6 := hr9.2.2.2.2.2.1
  have hs0 := K.sz
  dsimp only at h6 hs0
  show vy_W p (gl γ) e R s m args below meth c H locs cells slots (vy_MQ below noQ (XQ γ q σ) args s (hsz σ - hsz σ0) (hus σ - hus σ0) (gF γ)) (F0 m pc ls st) q
  refine vy_out (E := thE σ q) (fun x hx => ?_) K.lk c1 c2 c3 (fun t ht9 hW => ⟨rfl, rfl, Gd.of K hr9 ht9 hW, hr9.2.2.2.1.F ht9⟩) hr9.2.2.2.1.2.2 (by omega) (by omega)
  rw [K.tb, hh] at hx
  cases hx
/-- caught by the first row of the table -/
theorem J_catch {a b h ct : Nat} {hs : List (Nat × Nat × Nat × Nat)} {E : String} (hE : thE σ q = E) (hh : μ.2.2.2.2.2.2 = (a, b, h, ct) :: hs) (hc : (decide (a ≤ pc) && decide (pc < b)) = true) (hct : ct ≠ 0) (hlink : Cond.classLink μ.2.1 ct E ∈ lw_all) (hcast : Cond.castable E E ∈ lw_tbl) (k : J γ μ φ σ h l [va_rf (some q)]) : JTE γ μ φ σ pc l st q := by
  refine ⟨k.1, fun p e R s m args below meth c K H locs cells slots ls hr9 hl hce => ?_⟩
  obtain ⟨ce, c1, c2, c3⟩ := hce
  rw [hE] at c3
  have hcst : (Cond.castable E E).before args s = true := va_Nw.use (A := args) rfl (va_Nw.warmC K.w (va_Nw.of rfl (K.1.1 _ hcast)))
  exact vy_catch (E := E) (name := E) K.o [] ⟨a, b, h, ct⟩ (tableOf hs) (by rw [K.tb, hh]; rfl) (fun z hz => absurd hz List.not_mem_nil) (by simpa [covers] using hc) hct (show (Cond.classLink μ.2.1 ct E).before args s = true from K.wd hlink) hcst c1 c2 c3 (k.2 p e R s m args below meth c K H locs cells slots ls hr9 hl)
/-- a call that throws -/
theorem J_runTE {a : Array Value} (hm : hsz σ ≤ hsz σ1 ∧ hus σ ≤ hus σ1)
    (h : ∀ (p : Program) (e : Env) (R : Room) (s : State) (m : MethodId) (args : Array Value) (below : List Frame) (meth : Method) (c : Code), KOK γ μ φ p R s m meth c → ∀ (H : Heap) (locs : List Loc) (cells slots : Nat) (ls : Array Slot), Rl γ s (hus φ.1) σ H locs cells slots → LV ls μ.2.2.1 l → (∀ U : State, U.heap = H → s.WarmedH U.vm → Gd γ σ U) → cells + (hsz σ1 - hsz σ) ≤ R.cells → slots + (hus σ1 - hus σ) ≤ R.slots →
      vy_Run p (gl γ) e R s m args below meth c H locs cells slots (hsz σ1 - hsz σ) (hus σ1 - hus σ) (F0 m pc ls st) rest (noQ a) (XQ γ q σ1) (gF γ))
    (k : JTE γ μ φ σ1 pc l rest q) : J γ μ φ σ pc l st := by
  have k1 := k.1
  refine ⟨⟨by omega, by omega⟩, fun p e R s m args below meth c K H locs cells slots ls hr9 hl => ?_⟩
  have hr := hr9
  obtain ⟨g1, g2, g3, g4, g5, g6, g7⟩ := hr9
  have hrm := K.rm
  have hs0 := K.sz
  have hrun := h p e R s m args below meth c K H locs cells slots ls hr hl (fun U hU hW => Gd.of K hr hU hW) (by rw [hrm]; show _ ≤ hsz φ.2.2 - hsz φ.1; omega) (by rw [hrm]; show _ ≤ hus φ.2.2 - hus φ.1; omega)
  intro T hT X
  rcases hrun T hT X with ⟨v', st₀, t, T', L, h0, X', hL, e1, e2, hf, stp⟩ | ⟨q', st₀, t, T', L, E, ce, h0, X', hL, e1, e2, ⟨hE, hq', hg, hf⟩, hce, hcv, hcl, stp⟩
  · exact hf.elim
  subst hq'
  subst hE
  obtain ⟨f1, f2, f3, f4, f5, f6, f7⟩ := hg
  have hf1 := hf.1
  rw [h0] at hf1
  have hlo := K.lo
  have hold := K.old
  obtain ⟨t2, a1, b1⟩ := k.2 p e R s m args below meth c K T'.heap (locs ++ L) (cells + (hsz σ1 - hsz σ)) (slots + (hus σ1 - hus σ)) ls
    ⟨f2, by rw [e1]; exact f4, by rw [e1]; exact f5, ⟨by rw [e1]; exact Nat.le_trans g4.1 hf1, fun q h1 h2 => by
        have hq : q < (gs γ).heap.size := by
          rcases Nat.lt_or_ge q (gs γ).heap.size with z | z
          · exact z
          · exact absurd z h2
        rw [e1, f6 q hq, hold q hq], fun q hq => by
        rcases List.mem_append.mp hq with z | z
        · exact g4.2.2 q z
        · exact hL q z⟩, by omega, by omega, f7⟩ hl ⟨ce, by first | exact hce | (rw [e1]; exact hce), hcv, hcl⟩ T' rfl X'
  exact ⟨t2, stp.trans a1, b1⟩
variable {idx na k9 b c9 : Nat} {y : MethodName} {r : Option Nat}
theorem J_cVTE (d : decode μ.1 pc = .ok (.invokevirtual idx, 3)) (hy : YK y μ1 na) (hl : LK μ.2.1 idx y) (hin : Cond.instanceMethod y ∈ lw_all) (hd : μ1.2.2.2.2.1 + 1 ≤ μ.2.2.2.2.1) (hcs : cs rest k9) (hk : k9 ≤ 8) (As : List Value) (hrc : RC σ r b y) (hn : As.length = na) (hst : st = As.reverse ++ va_rf r :: rest) (hR : Rn γ μ1 y (va_rf r :: As) (σ, .inl q, σ1)) (k : JTE γ μ φ σ1 pc l rest q) : J γ μ φ σ pc l st := by
  obtain ⟨c9, qc, hb, h100, hcg, hsel⟩ := hrc
  subst hst
  obtain ⟨rfl, ht⟩ := cT_of hb
  subst ht
  refine J_runTE (a := (Value.ref b :: As).toArray) hR.1 (fun p e R s m args below meth c K H locs cells slots ls hr9 hl9 hG hc hs => ?_) k
  rcases hl with hl | ⟨host, hl⟩
  · exact vy_runV (Ts := lw_all) (C := qc.1) (b := b) (As := As) ⟨K.x, K.b, K.ml, K.o, fun w h => K.wd h⟩ hR.2 ⟨callB9 (φ1 := (σ, .inl q, σ1)) K hy hd hl, K.wd hin, K.wd hsel⟩ ⟨Gd.blind, recv9 K hr9.2.2.1 h100 hcg, fun U hU hW => ⟨rfl, hG U hU hW⟩⟩ rfl hn hl9.1.1 rfl (lroom hcs hk) d ⟨hc, hs⟩
  · exact vy_runVN (Ts := lw_all) (C := qc.1) (b := b) (As := As) ⟨K.x, K.b, K.ml, K.o, fun w h => K.wd h⟩ hR.2 ⟨callN9 (φ1 := (σ, .inl q, σ1)) K hy hd hl, K.wd hin, K.wd hsel⟩ ⟨Gd.blind, recv9 K hr9.2.2.1 h100 hcg, fun U hU hW => ⟨rfl, hG U hU hW⟩⟩ rfl hn hl9.1.1 rfl (lroom hcs hk) d ⟨hc, hs⟩
theorem J_cSTE (d : decode μ.1 pc = .ok (.invokestatic idx, 3)) (hy : YK y μ1 na) (hl : Cond.methodLink μ.2.1 idx y ∈ lw_all) (hstt : Cond.static y ∈ lw_all) (hd : μ1.2.2.2.2.1 + 1 ≤ μ.2.2.2.2.1) (hcs : cs rest k9) (hk : k9 ≤ 8) (As : List Value) (hn : As.length = na) (hst : st = As.reverse ++ rest) (hR : Rn γ μ1 y As (σ, .inl q, σ1)) (k : JTE γ μ φ σ1 pc l rest q) : J γ μ φ σ pc l st := by
  subst hst
  refine J_runTE (a := As.toArray) hR.1 (fun p e R s m args below meth c K H locs cells slots ls hr9 hl9 hG hc hs => ?_) k
  exact vy_runS (Ts := lw_all) (As := As) ⟨K.x, K.b, K.ml, K.o, fun w h => K.wd h⟩ hR.2 ⟨callB9 (φ1 := (σ, .inl q, σ1)) K hy hd hl, K.wd hstt⟩ ⟨Gd.blind, fun U hU hW => ⟨rfl, hG U hU hW⟩⟩ rfl hn hl9.1.1 rfl (lroom hcs hk) d ⟨hc, hs⟩
end JCE
/-! methods with handlers -/
def YKH (y : MethodName) (μ1 : MP) (na : Nat) : Prop := Cond.codeWith y μ1.1 μ1.2.2.1 μ1.2.2.2.1 μ1.2.2.2.2.2.2 ∈ lw_all ∧ Cond.initialized y.cls ∈ lw_all ∧ (y.cls ≠ "java/lang/invoke/MethodHandle" ∧ y.cls ≠ "java/lang/invoke/VarHandle") ∧ (parseMethodDescriptor y.desc).map (fun d => d.parameters.length) = some na ∧ μ1.2.2.1 ≤ 45 ∧ plainName y.cls = true ∧ μ1.2.1 = y.cls ∧ μ1.2.2.2.2.2.1 = y.name
def RnH (γ : GP) (μ : MP) (y : MethodName) (av : List Value) (σ : Hp) (v : Option Value) (σ1 : Hp) : Prop := (hsz σ ≤ hsz σ1 ∧ hus σ ≤ hus σ1) ∧
  Met (gl γ) y [Cond.codeWith y μ.1 μ.2.2.1 μ.2.2.2.1 μ.2.2.2.2.2.2] (rmO μ.2.2.2.2.1 (σ, .inr v, σ1)) (va_Pc av (Gd γ σ)) (Qr γ v σ1) (hsz σ1 - hsz σ) (hus σ1 - hus σ) (gF γ)
theorem Met_ofWH {l : Launch} {y : MethodName} {ws ws' : List Cond} {rm : Room} {Pc : Array Value → State → Prop} {Qc : Array Value → State → Outcome → State → Prop} {mc ms : Nat} {free : Addr → Prop} {cc : ByteArray} {maxL : Nat} {ret : Option FieldType} {hh : List (Nat × Nat × Nat × Nat)}
    (hy : plainName y.cls = true) (hw : ws = Cond.codeWith y cc maxL ret hh :: ws')
    (body : ∀ p e s m args below meth c s₁, BodyLoose p l y (headSpec ws rm) cc maxL ret e s m args below meth c s₁ → c.maxLocals = maxL → Pc args s →
      W p l e (headSpec ws rm).room s m args below meth c s.heap [] 0 0 (MQ below Qc args s mc ms free) (entryFrame m args maxL)) : Met l y ws rm Pc Qc mc ms free := by
  refine MetFree.of_bodyS (code := cc) (maxLocals := maxL) (ret := ret) hy ?_ ?_
  · intro args s m h hn
    obtain ⟨m9, meth, c, hn9, h1, h2, h3, h4, -, h5, h6, -⟩ := Cond.codeWith_spec (atoms_spec (ws := ws) h _ (by rw [hw]; exact List.mem_cons_self))
    cases hn.symm.trans hn9
    exact ⟨meth, c, h1, h2, h3, h4, h5, h6⟩
  · intro p e s m args below meth c s₁ B hml hP _
    have hh0 : s₁.heap = s.heap := by rw [B.state]; rfl
    obtain ⟨t, a1, o, b1, b2, b3⟩ := body p e s m args below meth c s₁ B hml hP s₁ hh0 (Stand.of_body B)
    exact ⟨t, o, a1, b1, b2, ⟨b3.1, b3.2⟩⟩
theorem J_mH {γ : GP} {μ : MP} {y : MethodName} {na : Nat} {v : Option Value} {σ σ1 : Hp} (hγ : GOK γ) (hy : YKH y μ na) (ts : List (Nat × Value)) (hts : cats ts) (hlen : (ts.map (fun q => q.1)).sum ≤ μ.2.2.1) (body : J γ μ (σ, .inr v, σ1) σ 0 (lva 0 ts) []) : RnH γ μ y (ts.map (fun q => q.2)) σ v σ1 := by
  refine ⟨body.1, ?_⟩
  refine Met_ofWH (cc := μ.1) (maxL := μ.2.2.1) (ret := μ.2.2.2.1) (hh := μ.2.2.2.2.2.2) hy.2.2.2.2.2.1 rfl ?_
  intro p e s m args below meth c s₁ B hml hv
  obtain ⟨rfl, hg⟩ := hv
  obtain ⟨g1, g2, g3, g4, g5, g6, g7⟩ := hg
  rw [lg_entry_eq]
  have hown : s.vm.findClass μ.2.1 = some m.cls := by rw [hy.2.2.2.2.2.2.1]; exact findClass_of_methodNamed B.named
  have hnm : meth.name = μ.2.2.2.2.2.1 := by rw [hy.2.2.2.2.2.2.2]; exact (name_of_methodNamed B.named B.method).1
  have htb : c.exceptionTable.toList = tableOf μ.2.2.2.2.2.2 := vy_table (x := y) B (atoms_spec (ws := [Cond.codeWith y μ.1 μ.2.2.1 μ.2.2.2.1 μ.2.2.2.2.2.2]) B.pre _ List.mem_cons_self)
  have hl := lv_entry (ts.map (fun q => q.2)) (n := μ.2.2.1) (by rw [len_lg ts hts]; exact hlen)
  obtain ⟨u1, u2⟩ := unl_lva ts 0 hts
  rw [← u1] at hl
  exact body.2 p e (rmO μ.2.2.2.2.1 (σ, .inr v, σ1)) s m _ below meth c ⟨hγ, B.exec, B.bytes, hml, B.returns, hown, B.notSynchronized, g1, by omega, g6, g4, rfl, hnm, htb⟩ s.heap [] 0 0 _ ⟨g2, g4, g5, va_S.rf, by omega, Nat.zero_add _, g7⟩ ⟨hl, u2⟩
/-- a call of a method with handlers -/
theorem J_cVHi {γ : GP} {μ μ1 : MP} {φ : FP} {σ σ1 : Hp} {pc : Nat} {l : LVs} {st rest : List Value} {idx na k9 b c9 : Nat} {y : MethodName} {r : Option Nat} {x : Int32} {q : vw_C} (n : Nat) (d : decode μ.1 pc = .ok (.invokevirtual idx, 3)) (e : pc + 3 = n) (hy : YKH y μ1 na) (hl : Cond.methodLink μ.2.1 idx y ∈ lw_all) (hin : Cond.instanceMethod y ∈ lw_all) (hsel : Cond.selects q.1 y y ∈ lw_all) (hd : μ1.2.2.2.2.1 + 1 ≤ μ.2.2.2.2.1) (hcs : cs rest k9) (hk : k9 ≤ 8) (As : List Value) (hb : cT σ r c9 = some b) (h100 : c9 < 100) (hcg : cg[c9]? = some q) (hn : As.length = na) (hst : st = As.reverse ++ va_rf r :: rest) (hR : RnH γ μ1 y (va_rf r :: As) σ (some (.int x)) σ1) (k : J γ μ φ σ1 n l (.int x :: rest)) : J γ μ φ σ pc l st := by
  subst hst
  obtain ⟨rfl, ht⟩ := cT_of hb
  subst ht
  refine J_run (v := some (.int x)) (a := (Value.ref b :: As).toArray) e hR.1 (fun p e R s m args below meth c K H locs cells slots ls hr9 hl9 hG hc hs => ?_) k
  obtain ⟨h1, h2⟩ := locW (φ1 := (σ, .inr (some (.int x)), σ1)) hy.2.2.2.2.1 hd K.rm
  refine vy_runVW (Ts := lw_all) (C := q.1) (b := b) (As := As) (hh := μ1.2.2.2.2.2.2) ⟨K.x, K.b, K.ml, K.o, fun w h => K.wd h⟩ hR.2 ⟨⟨rfl, rfl, h1, h2, codeW K hy.1, List.mem_cons_self⟩, K.wd hy.1, K.wd hy.2.1, hy.2.2.1, fun sig h => ?_, K.wd hl, K.wd hin, K.wd hsel⟩ ⟨Gd.blind, recv9 K hr9.2.2.1 h100 hcg, fun U hU hW => ⟨rfl, hG U hU hW⟩⟩ rfl hn hl9.1.1 rfl (lroom hcs hk) d ⟨hc, hs⟩
  have h3 := hy.2.2.2.1
  rw [h] at h3
  exact (Option.some.inj h3).symm
