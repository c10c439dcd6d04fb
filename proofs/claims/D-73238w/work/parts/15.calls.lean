set_option maxRecDepth 100000
/-! ROWS: new objects, ends, contracts, calls -/
theorem dv_I {ty : FieldType} (h : isI ty = true) : defaultValue ty = .int 0 := by cases ty <;> first | rfl | exact nomatch h
theorem dv_L {ty : FieldType} (h : isL ty = true) : defaultValue ty = .long 0 := by cases ty <;> first | rfl | exact nomatch h
theorem dv_R {ty : FieldType} (h : isR ty = true) : defaultValue ty = .null := by cases ty <;> first | rfl | exact nomatch h
def okt (ty : FieldType) : Bool := isI ty || (isL ty || isR ty)
theorem dv_fv {ty : FieldType} (h : okt ty = true) (σ : Hp) (t n u k : Nat) : defaultValue ty = fv ty (wN σ t n u) (hsz σ) k := by
  have e3 : hI (wN σ t n u) (hsz σ) = fun _ => 0 := if_pos rfl
  have e4 : hL (wN σ t n u) (hsz σ) = fun _ => 0 := if_pos rfl
  have e5 : hR (wN σ t n u) (hsz σ) = fun _ => none := if_pos rfl
  unfold okt at h
  rcases Bool.or_eq_true_iff.mp h with h | h
  · rw [dv_I h, fv_I h, e3]
  · rcases Bool.or_eq_true_iff.mp h with h | h
    · rw [dv_L h, fv_L h, e4]
    · rw [dv_R h, fv_R h, e5]
      rfl
/-- the words on the stack -/
def cs (st : List Value) (k : Nat) : Prop := (st.map fun v => v.category).sum ≤ k
theorem cs_nil : cs [] 0 := Nat.le_refl 0
theorem cs_int {x : Int32} {st : List Value} {k : Nat} (h : cs st k) : cs (.int x :: st) (k + 1) := by
  unfold cs at h ⊢
  rw [List.map_cons, List.sum_cons]
  show 1 + _ ≤ _
  omega
theorem cs_long {x : Int64} {st : List Value} {k : Nat} (h : cs st k) : cs (.long x :: st) (k + 2) := by
  unfold cs at h ⊢
  rw [List.map_cons, List.sum_cons]
  show 2 + _ ≤ _
  omega
theorem cs_rf {x : Option Nat} {st : List Value} {k : Nat} (h : cs st k) : cs (va_rf x :: st) (k + 1) := by
  unfold cs at h ⊢
  rw [List.map_cons, List.sum_cons, rf_cat]
  omega
section JN
variable {γ : GP} {μ : MP} {φ : FP} {σ : Hp} {pc : Nat} {l : LVs} {st : List Value}
theorem J_newI {i : Int32} {τ : Hp} (n : Nat) (d : decode μ.1 pc = .ok (.newarray .int, 2)) (e : pc + 2 = n) (h : nA 0 σ i = some τ) (k9 : J γ μ φ τ n l (va_rf (some (hsz σ)) :: st)) : J γ μ φ σ pc l (.int i :: st) :=
  J_newa 0 (by decide) rfl rfl (by decide) (fun σ a k => by rw [if_neg (by decide)]; show Value.int 0 = Value.int (up1 (hI σ) (hsz σ) (fun _ => 0) (hsz σ) 0); unfold up1; rw [if_pos rfl]) q275 (fun _ _ h => h) n d e h k9
theorem J_newL {i : Int32} {τ : Hp} (n : Nat) (d : decode μ.1 pc = .ok (.newarray .long, 2)) (e : pc + 2 = n) (h : nA 1 σ i = some τ) (k9 : J γ μ φ τ n l (va_rf (some (hsz σ)) :: st)) : J γ μ φ σ pc l (.int i :: st) :=
  J_newa 1 (by decide) rfl rfl (by decide) (fun σ a k => by rw [if_pos rfl]; show Value.long 0 = Value.long (up1 (hL σ) (hsz σ) (fun _ => 0) (hsz σ) 0); unfold up1; rw [if_pos rfl]) q276 (fun _ _ h => h) n d e h k9
theorem J_newB {i : Int32} {τ : Hp} (n : Nat) (d : decode μ.1 pc = .ok (.newarray .byte, 2)) (e : pc + 2 = n) (h : nA 2 σ i = some τ) (k9 : J γ μ φ τ n l (va_rf (some (hsz σ)) :: st)) : J γ μ φ σ pc l (.int i :: st) :=
  J_newa 2 (by decide) rfl rfl (by decide) (fun σ a k => by rw [if_neg (by decide)]; show Value.int 0 = Value.int (up1 (hI σ) (hsz σ) (fun _ => 0) (hsz σ) 0); unfold up1; rw [if_pos rfl]) q471 (fun _ _ h => h) n d e h k9
theorem J_newZ {i : Int32} {τ : Hp} (n : Nat) (d : decode μ.1 pc = .ok (.newarray .boolean, 2)) (e : pc + 2 = n) (h : nA 3 σ i = some τ) (k9 : J γ μ φ τ n l (va_rf (some (hsz σ)) :: st)) : J γ μ φ σ pc l (.int i :: st) :=
  J_newa 3 (by decide) rfl rfl (by decide) (fun σ a k => by rw [if_neg (by decide)]; show Value.int 0 = Value.int (up1 (hI σ) (hsz σ) (fun _ => 0) (hsz σ) 0); unfold up1; rw [if_pos rfl]) q2402 (fun _ _ h => h) n d e h k9
theorem J_anew {C : String} {i : Int32} {τ : Hp} {idx : Nat} (t : Nat) (ht7 : 7 ≤ t) (ht : t < 16) (hty : ag.getD t .int = .object C) (hcl : Cond.classLink μ.2.1 idx C ∈ lw_all) (hao : Cond.arrayOver (.object C) ∈ lw_tbl) (n : Nat) (d : decode μ.1 pc = .ok (.anewarray idx, 3)) (e : pc + 3 = n) (h : nA t σ i = some τ) (k9 : J γ μ φ τ n l (va_rf (some (hsz σ)) :: st)) : J γ μ φ σ pc l (.int i :: st) := by
  subst e
  obtain ⟨⟨h0, h1⟩, rfl⟩ := ite_some h
  refine J.al (by omega) (fun p e R s m args below meth c Q K H locs cells slots ls hsz9 hc hs w => ?_) k9
  have hover : va_AO C s := va_AO.moved K.w.alike (va_AO.of (K.1.1 _ hao))
  refine W.anew K.x K.b K.o (K.wd hcl) (va_AO.use hover) rfl d rfl (Int32.not_lt.mpr h0) (Nat.le_trans (Nat.mul_le_mul_right 4 h1) (by decide)) hc hs (fun cA kA comp f1 f2 f3 f4 => ?_)
  have hk := K.k.2 t _ (tyl_at _ ht)
  dsimp only at hk
  rw [hty] at hk
  obtain ⟨_, _, _, _, _, hfc⟩ := hk.2
  have hcA : cA = gA γ t := Option.some.inj (f1.symm.trans hfc)
  subst hcA
  rw [hsz9]
  refine w _ (by rw [Array.size_push]) (fun q hq => by rw [Array.getElem?_push, if_neg (Nat.ne_of_lt hq)]) ?_
  rw [cel_a (tg_wN ..), elts_R (by omega)]
  show _ = some _
  rw [ln_wN, ← hsz9, Array.getElem?_push_size, arrV_new]
  dsimp only
  rw [vp_cell_q]
  congr 2
  funext j
  have e5 : hR (wN σ (100 + t) i.toNatClampNeg i.toNatClampNeg) (Array.size H) = fun _ => none := by rw [hsz9]; exact if_pos rfl
  rw [e5]
  rfl
/-- a new object of class c -/
theorem J_new {c9 nsl idx : Nat} {q : vw_C} (hcg : cg[c9]? = some q) (h100 : c9 < 100) (hty : ∀ k, k < q.2.2 → okt (cgty c9 k) = true) (hcl : Cond.classLink μ.2.1 idx q.1 ∈ lw_all) (hinst : Cond.instantiable q.1 nsl ∈ lw_all) (hini : Cond.initialized q.1 ∈ lw_all) (n : Nat) (d : decode μ.1 pc = .ok (.new idx, 3)) (e : pc + 3 = n) (k9 : J γ μ φ (wN σ c9 0 nsl) n l (va_rf (some (hsz σ)) :: st)) : J γ μ φ σ pc l st := by
  subst e
  refine J.al (by omega) (fun p e R s m args below meth c Q K H locs cells slots ls hsz9 hc hs w => ?_) k9
  have hKn := K.k.1 c9 _ hcg
  refine W.newcK K.x K.b K.o (K.wd hcl) (K.wd hinst) (K.wd hini) rfl d hc hs hKn.2.1 hsz9 (fun H1 kC hkC e1 z oq => ?_)
  refine w H1 (by omega) (fun q hq => oq q (by omega)) ?_
  rw [cel_o (by rw [tg_wN]; exact h100), tg_wN]
  refine ⟨q, hcg, (u_born (cgty c9) (fun w h => K.wd h (args := args)) (cg_in _ _ hcg) hKn hkC e1 (cg_tyok _ _ hcg)).to (fun k hk => ?_)⟩
  show defaultValue (cgty c9 k) = (flds c9 _ _).getD k .null
  rw [List.getD_eq_getElem?_getD, flds_at (by rw [cgN_of hcg]; exact hk), dv_fv (hty k hk) σ c9 0 nsl k]
  rfl
theorem lroom {m : MethodId} {pc : Nat} {ls : Array Slot} {r0 st : List Value} {k : Nat} (h : cs st k) (hk : k ≤ 8) : 2 * (F0 m pc ls r0).monitorRoom + (st.map fun v => v.category).sum ≤ 8 := lv_room (Nat.le_trans h hk)
theorem J_objInit {idx k : Nat} {a : Nat} (hl : Cond.methodLink μ.2.1 idx Lib.objectInit ∈ lw_all) (hd : 1 ≤ μ.2.2.2.2.1) (hcs : cs st k) (hk : k ≤ 8) (n : Nat) (d : decode μ.1 pc = .ok (.invokespecial idx, 3)) (e : pc + 3 = n) (k9 : J γ μ φ σ n l st) : J γ μ φ σ pc l (va_rf (some a) :: st) := by
  subst e
  refine J.st (fun p e R s m args below meth c Q K H locs cells slots ls hr9 hl9 w => ?_) k9
  have hr := lroom (m := m) (pc := pc) (ls := ls) (r0 := va_rf (some a) :: st) hcs hk
  refine W.objInit K.x K.b K.o (K.wd hl) (K.wd q186) (K.wd q187) rfl (by rw [K.ml]; exact hl9.1.1) rfl d ?_ ?_ w
  · rw [K.rm]
    exact hd
  · rw [K.rm]
    show _ ≤ 64 * μ.2.2.2.2.1
    omega
/-- ends -/
theorem Gd.of {p : Program} {R : Room} {s : State} {m : MethodId} {meth : Method} {c : Code} {H : Heap} {locs : List Loc} {cells slots : Nat} (K : KOK γ μ φ p R s m meth c) (hr9 : Rl γ s (hus φ.1) σ H locs cells slots) {t : State} (ht : t.heap = H) (hW : s.WarmedH t.vm) : Gd γ σ t := by
  obtain ⟨g1, g2, g3, g4, g5, g6, g7⟩ := hr9
  have := K.lo
  refine ⟨State.WarmedH.trans K.w hW, g1, by omega, by rw [ht]; exact g2, by rw [ht]; exact g3, fun q hq => ?_, g7⟩
  rw [ht, g4.2.1 q (by omega) (fun z => by have z : (gs γ).heap.size ≤ q := z; omega)]
  exact K.old q hq
theorem J.rt {v : Option Value} (h : (Sum.inr v, σ) = φ.2)
    (row : ∀ (p : Program) (e : Env) (R : Room) (s : State) (m : MethodId) (args : Array Value) (below : List Frame) (meth : Method) (c : Code) (H : Heap) (locs : List Loc) (cells slots : Nat) (ls : Array Slot), KOK γ μ φ p R s m meth c → (∀ t : State, t.heap = H → s.WarmedH t.vm → Qr γ v σ args s (.returned v) t) → (∀ q ∈ locs, gF γ q.base) → W p (gl γ) e R s m args below meth c H locs cells slots (MQ below (Qr γ v σ) args s cells slots (gF γ)) (F0 m pc ls st)) : J γ μ φ σ pc l st := by
  obtain ⟨σ0, o, σ1⟩ := φ
  cases h
  refine ⟨⟨Nat.le_refl _, Nat.le_refl _⟩, fun p e R s m args below meth c K H locs cells slots ls hr9 hl => ?_⟩
  have hw := row p e R s m args below meth c H locs cells slots ls K (fun t ht hW => ⟨rfl, Gd.of K hr9 ht hW, hr9.2.2.2.1.F ht⟩) hr9.2.2.2.1.2.2
  have h5 := hr9.2.2.2.2.1
  have h6 := hr9.2.2.2.2.2.1
  have hs0 := K.sz
  dsimp only at h6 hs0
  have ec : hsz σ - hsz σ0 = cells := by omega
  have es : hus σ - hus σ0 = slots := by omega
  show W p (gl γ) e R s m args below meth c H locs cells slots (MQ below (Qr γ v σ) args s (hsz σ - hsz σ0) (hus σ - hus σ0) (gF γ)) (F0 m pc ls st)
  rw [ec, es]
  exact hw
theorem J_vret (hr : μ.2.2.2.1 = none) (d : decode μ.1 pc = .ok (.return_, 1)) (h : (Sum.inr none, σ) = φ.2) : J γ μ φ σ pc l [] :=
  J.rt h (fun p e R s m args below meth c H locs cells slots ls K hq hf => W.vret K.x K.b (K.rt.trans hr) hq hf d K.lk)
theorem J_iret {x : Int32} (hr : μ.2.2.2.1 = some .int) (d : decode μ.1 pc = .ok (.ireturn, 1)) (h : (Sum.inr (some (.int x)), σ) = φ.2) : J γ μ φ σ pc l [.int x] :=
  J.rt h (fun p e R s m args below meth c H locs cells slots ls K hq hf => W.iret K.x K.b (K.rt.trans hr) hq hf d K.lk)
theorem J_lret {x : Int64} (hr : μ.2.2.2.1 = some .long) (d : decode μ.1 pc = .ok (.lreturn, 1)) (h : (Sum.inr (some (.long x)), σ) = φ.2) : J γ μ φ σ pc l [.long x] :=
  J.rt h (fun p e R s m args below meth c H locs cells slots ls K hq hf => W.lret K.x K.b (K.rt.trans hr) hq hf d K.lk)
theorem J_aret {x : Option Nat} {ty : FieldType} (hr : μ.2.2.2.1 = some ty) (hty : (∃ n, ty = .object n) ∨ ∃ t, ty = .array t) (d : decode μ.1 pc = .ok (.areturn, 1)) (h : (Sum.inr (some (va_rf x)), σ) = φ.2) : J γ μ φ σ pc l [va_rf x] :=
  J.rt h (fun p e R s m args below meth c H locs cells slots ls K hq hf => W.aret K.x K.b (K.rt.trans hr) hty (by cases x with | none => exact Or.inl rfl | some a => exact Or.inr ⟨a, rfl⟩) hq hf d K.lk)
/-- a boolean's end: 0 or 1 -/
def rZ (x : Int32) (σ : Hp) : Option (Int32 × Hp) := if x = 0 ∨ x = 1 then some (x, σ) else none
theorem J_zret {x : Int32} (hr : μ.2.2.2.1 = some .boolean) (hx : x = 0 ∨ x = 1) (d : decode μ.1 pc = .ok (.ireturn, 1)) (h : (Sum.inr (some (.int x)), σ) = φ.2) : J γ μ φ σ pc l [.int x] :=
  J.rt h (fun p e R s m args below meth c H locs cells slots ls K hq hf => W.zret K.x K.b (K.rt.trans hr) (by rcases hx with rfl | rfl <;> decide) hq hf d K.lk)
end JN
/-! contracts -/
def lva : Nat → List (Nat × Value) → LVs
  | _, [] => []
  | i, (c, v) :: t => (i, c, v) :: lva (i + c) t
def cats (ts : List (Nat × Value)) : Prop := ∀ q ∈ ts, q.2.category = q.1
theorem cats_nil : cats [] := fun _ h => by cases h
theorem cats_i {x : Int32} {ts : List (Nat × Value)} (h : cats ts) : cats ((1, .int x) :: ts) := fun q hq => (List.mem_cons.mp hq).elim (fun e => by rw [e]; rfl) (h q)
theorem cats_l {x : Int64} {ts : List (Nat × Value)} (h : cats ts) : cats ((2, .long x) :: ts) := fun q hq => (List.mem_cons.mp hq).elim (fun e => by rw [e]; rfl) (h q)
theorem cats_r {x : Option Nat} {ts : List (Nat × Value)} (h : cats ts) : cats ((1, va_rf x) :: ts) := fun q hq => (List.mem_cons.mp hq).elim (fun e => by rw [e]; exact rf_cat x) (h q)
theorem unl_lva : ∀ (ts : List (Nat × Value)) (i : Nat), cats ts → unl (lva i ts) = lv_args i (ts.map (fun q => q.2)) ∧ ∀ q ∈ lva i ts, q.2.2.category = q.2.1
  | [], _, _ => ⟨rfl, fun _ h => by cases h⟩
  | (c, v) :: t, i, h => by
    have hc : v.category = c := h (c, v) List.mem_cons_self
    obtain ⟨h1, h2⟩ := unl_lva t (i + c) (fun q hq => h q (List.mem_cons_of_mem _ hq))
    refine ⟨?_, fun q hq => ?_⟩
    · show (i, v) :: unl (lva (i + c) t) = (i, v) :: lv_args (if v.category = 2 then i + 2 else i + 1) _
      rw [h1]
      rcases lv_cat v with e | e
      · rw [if_neg (by omega), show c = 1 by omega]
      · rw [if_pos e, show c = 2 by omega]
    · rcases List.mem_cons.mp hq with rfl | hq
      · exact hc
      · exact h2 q hq
def YK (y : MethodName) (μ1 : MP) (na : Nat) : Prop := Cond.code y μ1.1 μ1.2.2.1 μ1.2.2.2.1 ∈ lw_all ∧ Cond.initialized y.cls ∈ lw_all ∧ (y.cls ≠ "java/lang/invoke/MethodHandle" ∧ y.cls ≠ "java/lang/invoke/VarHandle") ∧ (parseMethodDescriptor y.desc).map (fun d => d.parameters.length) = some na ∧ μ1.2.2.1 ≤ 45 ∧ plainName y.cls = true ∧ μ1.2.1 = y.cls ∧ μ1.2.2.2.2.2.1 = y.name
/-- y runs from φ.1 with these arguments to φ.2 -/
def Rn (γ : GP) (μ : MP) (y : MethodName) (av : List Value) (φ : FP) : Prop := (hsz φ.1 ≤ hsz φ.2.2 ∧ hus φ.1 ≤ hus φ.2.2) ∧ match φ.2.1 with
  | .inr v => Met (gl γ) y [Cond.code y μ.1 μ.2.2.1 μ.2.2.2.1] (rmO μ.2.2.2.2.1 φ) (va_Pc av (Gd γ φ.1)) (Qr γ v φ.2.2) (hsz φ.2.2 - hsz φ.1) (hus φ.2.2 - hus φ.1) (gF γ)
  | .inl q => vy_Met (gl γ) y [Cond.code y μ.1 μ.2.2.1 μ.2.2.2.1] (rmO μ.2.2.2.2.1 φ) (va_Pc av (Gd γ φ.1)) noQ (XQ γ q φ.2.2) (hsz φ.2.2 - hsz φ.1) (hus φ.2.2 - hus φ.1) (gF γ)
section JM
variable {γ : GP}
theorem J_met {μ : MP} {y : MethodName} {na : Nat} {v : Option Value} {σ σ1 : Hp} (hγ : GOK γ) (hy : YK y μ na) (hh0 : μ.2.2.2.2.2.2 = []) (ts : List (Nat × Value)) (hts : cats ts) (hlen : (lg_sl (ts.map (fun q => q.2))).length ≤ μ.2.2.1) (body : J γ μ (σ, .inr v, σ1) σ 0 (lva 0 ts) []) : Rn γ μ y (ts.map (fun q => q.2)) (σ, .inr v, σ1) := by
  refine ⟨body.1, ?_⟩
  show Met (gl γ) y [Cond.code y μ.1 μ.2.2.1 μ.2.2.2.1] _ _ _ _ _ _
  refine Met.ofW (cc := μ.1) (maxL := μ.2.2.1) (ret := μ.2.2.2.1) hy.2.2.2.2.2.1 rfl ?_
  intro p e s m args below meth c s₁ B hml hv
  obtain ⟨rfl, hg⟩ := hv
  obtain ⟨g1, g2, g3, g4, g5, g6, g7⟩ := hg
  rw [lg_entry_eq]
  have hown : s.vm.findClass μ.2.1 = some m.cls := by rw [hy.2.2.2.2.2.2.1]; exact findClass_of_methodNamed B.named
  have hnm : meth.name = μ.2.2.2.2.2.1 := by rw [hy.2.2.2.2.2.2.2]; exact (name_of_methodNamed B.named B.method).1
  have htb : c.exceptionTable.toList = tableOf μ.2.2.2.2.2.2 := by
    obtain ⟨meth9, c9, h1, h2, -, -, -, -, h7, -⟩ := Cond.code_spec B.named (atoms_spec (ws := [Cond.code y μ.1 μ.2.2.1 μ.2.2.2.1]) B.pre _ List.mem_cons_self)
    cases Option.some.inj (h1.symm.trans B.method)
    cases Option.some.inj (h2.symm.trans (Stand.of_body B).code)
    rw [hh0, Array.isEmpty_iff.mp h7]
    rfl
  have hl := lv_entry (ts.map (fun q => q.2)) (n := μ.2.2.1) hlen
  obtain ⟨u1, u2⟩ := unl_lva ts 0 hts
  rw [← u1] at hl
  dsimp only at g2 g3 g4 g5
  refine body.2 p e (rmO μ.2.2.2.2.1 (σ, .inr v, σ1)) s m _ below meth c ⟨hγ, B.exec, B.bytes, hml, B.returns, hown, B.notSynchronized, g1, by omega, g6, g4, rfl, hnm, htb⟩ s.heap [] 0 0 _ ⟨g2, g4, g5, va_S.rf, by omega, Nat.zero_add _, g7⟩ ⟨hl, u2⟩
theorem Gd.blind {σ : Hp} {av : List Value} : FrameBlind (va_Pc av (Gd γ σ)) := fun _ _ _ _ h => h
/-- behind a call -/
theorem J_run {μ : MP} {φ : FP} {σ σ1 : Hp} {pc n : Nat} {l : LVs} {st rest : List Value} {v : Option Value} {a : Array Value} (e : pc + 3 = n) (hm : hsz σ ≤ hsz σ1 ∧ hus σ ≤ hus σ1)
    (h : ∀ (p : Program) (e : Env) (R : Room) (s : State) (m : MethodId) (args : Array Value) (below : List Frame) (meth : Method) (c : Code), KOK γ μ φ p R s m meth c → ∀ (H : Heap) (locs : List Loc) (cells slots : Nat) (ls : Array Slot), Rl γ s (hus φ.1) σ H locs cells slots → LV ls μ.2.2.1 l → (∀ U : State, U.heap = H → s.WarmedH U.vm → Gd γ σ U) → cells + (hsz σ1 - hsz σ) ≤ R.cells → slots + (hus σ1 - hus σ) ≤ R.slots →
      va_Run p (gl γ) e R s m args below meth c H locs cells slots (hsz σ1 - hsz σ) (hus σ1 - hus σ) (F0 m pc ls st) rest (Qr γ v σ1 a) (gF γ))
    (k : J γ μ φ σ1 n l (v.toList ++ rest)) : J γ μ φ σ pc l st := by
  subst e
  have k1 := k.1
  refine ⟨⟨by omega, by omega⟩, fun p e R s m args below meth c K H locs cells slots ls hr9 hl => ?_⟩
  have hr := hr9
  obtain ⟨g1, g2, g3, g4, g5, g6, g7⟩ := hr9
  have hrm := K.rm
  have hs0 := K.sz
  have hrun := h p e R s m args below meth c K H locs cells slots ls hr hl (fun U hU hW => Gd.of K hr hU hW) (by rw [hrm]; show _ ≤ hsz φ.2.2 - hsz φ.1; omega) (by rw [hrm]; show _ ≤ hus φ.2.2 - hus φ.1; omega)
  intro T hT X
  obtain ⟨v', st₀, t, T', L, h0, X', hL, e1, e2, ⟨hv, hg, hf⟩, stp⟩ := hrun T hT X
  cases hv
  obtain ⟨f1, f2, f3, f4, f5, f6, f7⟩ := hg
  have hf1 := hf.1
  rw [h0] at hf1
  have hlo := K.lo
  have hold := K.old
  obtain ⟨t2, a1, b1⟩ := k.2 p e R s m args below meth c K T'.heap (locs ++ L) (cells + (hsz σ1 - hsz σ)) (slots + (hus σ1 - hus σ)) ls
    ⟨f2, by rw [e1]; exact f4, by rw [e1]; exact f5, ⟨by rw [e1]; exact Nat.le_trans g4.1 hf1, fun q h1 h2 => by
        have hq : q < (gs γ).heap.size := by
          rcases Nat.lt_or_ge q (gs γ).heap.size with z | z
          · exact z
          · exact absurd z h2
        rw [e1, f6 q hq, hold q hq], fun q hq => by
        rcases List.mem_append.mp hq with z | z
        · exact g4.2.2 q z
        · exact hL q z⟩, by omega, by omega, f7⟩ hl T' rfl X'
  exact ⟨t2, stp t2 a1, b1⟩
def LK (own : String) (idx : Nat) (y : MethodName) : Prop := Cond.methodLink own idx y ∈ lw_all ∨ ∃ host, Cond.methodLinkNest own idx y host ∈ lw_tbl
theorem codeW {p : Program} {R : Room} {s : State} {m : MethodId} {meth : Method} {c : Code} {μ : MP} {φ : FP} (K : KOK γ μ φ p R s m meth c) {w : Cond} (h : w ∈ lw_all) : ∀ x ∈ [w], ∀ (a' : Array Value) (U : State), s.WarmedH U.vm → x.before a' U = true := by
  intro x hx a' U hW
  rw [List.mem_singleton.mp hx]
  exact word_at (State.WarmedH.trans K.w hW) (lw_self w h).2 (K.1.1 w (lw_all_tbl h))
theorem locW {μ μ1 : MP} {φ φ1 : FP} {R : Room} (h45 : μ1.2.2.1 ≤ 45) (hd : μ1.2.2.2.2.1 + 1 ≤ μ.2.2.2.2.1) (hR : R = rmO μ.2.2.2.2.1 φ) : (rmO μ1.2.2.2.2.1 φ1).frames + 1 ≤ R.frames ∧ 8 + (μ1.2.2.1 + 11) + (rmO μ1.2.2.2.2.1 φ1).locals ≤ R.locals := by
  rw [hR]
  refine ⟨hd, ?_⟩
  show 8 + (μ1.2.2.1 + 11) + 64 * μ1.2.2.2.2.1 ≤ 64 * μ.2.2.2.2.1
  omega
theorem callB9 {p : Program} {R : Room} {s : State} {m : MethodId} {meth : Method} {c : Code} {μ μ1 : MP} {φ φ1 : FP} {idx na : Nat} {y : MethodName} {args : Array Value} (K : KOK γ μ φ p R s m meth c) (hy : YK y μ1 na) (hd : μ1.2.2.2.2.1 + 1 ≤ μ.2.2.2.2.1) (hl : Cond.methodLink μ.2.1 idx y ∈ lw_all) :
    CallB R s args μ.2.1 idx y μ1.1 μ1.2.2.1 μ1.2.2.2.1 [Cond.code y μ1.1 μ1.2.2.1 μ1.2.2.2.1] (rmO μ1.2.2.2.2.1 φ1) (hsz φ1.2.2 - hsz φ1.1) (hus φ1.2.2 - hus φ1.1) na := by
  obtain ⟨h1, h2⟩ := locW (φ1 := φ1) hy.2.2.2.2.1 hd K.rm
  refine ⟨rfl, rfl, h1, h2, codeW K hy.1, List.mem_cons_self, K.wd hy.1, K.wd hy.2.1, hy.2.2.1, fun sig h => ?_, K.wd hl⟩
  have h3 := hy.2.2.2.1
  rw [h] at h3
  exact (Option.some.inj h3).symm
theorem callN9 {p : Program} {R : Room} {s : State} {m : MethodId} {meth : Method} {c : Code} {μ μ1 : MP} {φ φ1 : FP} {idx na : Nat} {y : MethodName} {host : String} {args : Array Value} (K : KOK γ μ φ p R s m meth c) (hy : YK y μ1 na) (hd : μ1.2.2.2.2.1 + 1 ≤ μ.2.2.2.2.1) (hl : Cond.methodLinkNest μ.2.1 idx y host ∈ lw_tbl) :
    va_CN R s args μ.2.1 idx y host μ1.1 μ1.2.2.1 μ1.2.2.2.1 [Cond.code y μ1.1 μ1.2.2.1 μ1.2.2.2.1] (rmO μ1.2.2.2.2.1 φ1) (hsz φ1.2.2 - hsz φ1.1) (hus φ1.2.2 - hus φ1.1) na :=
  va_cnB na (Ts := lw_all) (fun w h => K.wd h) (fun w h => by rw [List.mem_singleton.mp h]; exact lw_self _ hy.1) rfl rfl rfl (va_Nw.warmM K.w (va_Nw.of rfl (K.1.1 _ hl))) (K.wd hy.2.1) ⟨hy.2.2.1.1, hy.2.2.1.2, hy.2.2.2.1⟩ (locW hy.2.2.2.2.1 hd K.rm)
theorem recv9 {p : Program} {R : Room} {s : State} {m : MethodId} {meth : Method} {c : Code} {μ : MP} {φ : FP} {σ : Hp} {H : Heap} {b : Nat} {q : vw_C} (K : KOK γ μ φ p R s m meth c) (hat : ∀ a, htg σ a < 999 → va_at (gD γ) cg (a, cel (gA γ) σ a) H) (h100 : htg σ b < 100) (hcg : cg[htg σ b]? = some q) : ∃ cellB : Cell, H[b]? = some cellB ∧ cellB.vm.isStatics = false ∧ s.vm.findClass q.1 = some cellB.cls := by
  have h := hat b (by omega)
  rw [cel_o h100] at h
  exact va_recv K.k (va_P1 h) hcg (q0 := 0) rfl
section Calls
variable {μ μ1 : MP} {φ : FP} {σ σ1 : Hp} {pc : Nat} {l : LVs} {st rest As : List Value} {v : Option Value} {idx na k9 b : Nat} {y : MethodName}
theorem J_callV {q : vw_C} (n : Nat) (d : decode μ.1 pc = .ok (.invokevirtual idx, 3)) (e : pc + 3 = n) (hy : YK y μ1 na) (hl : LK μ.2.1 idx y) (hin : Cond.instanceMethod y ∈ lw_all) (hsel : Cond.selects q.1 y y ∈ lw_all) (hd : μ1.2.2.2.2.1 + 1 ≤ μ.2.2.2.2.1) (hcs : cs rest k9) (hk : k9 ≤ 8) (h100 : htg σ b < 100) (hcg : cg[htg σ b]? = some q) (hn : As.length = na) (hst : st = As.reverse ++ va_rf (some b) :: rest) (hR : Rn γ μ1 y (va_rf (some b) :: As) (σ, .inr v, σ1)) (k : J γ μ φ σ1 n l (v.toList ++ rest)) : J γ μ φ σ pc l st := by
  subst hst
  refine J_run (a := (Value.ref b :: As).toArray) e hR.1 (fun p e R s m args below meth c K H locs cells slots ls hr9 hl9 hG hc hs => ?_) k
  rcases hl with hl | ⟨host, hl⟩
  · exact va_runV (Ts := lw_all) (C := q.1) (b := b) (As := As) ⟨K.x, K.b, K.ml, K.o, fun w h => K.wd h⟩ hR.2 ⟨callB9 (φ1 := (σ, .inr v, σ1)) K hy hd hl, K.wd hin, K.wd hsel⟩ ⟨Gd.blind, recv9 K hr9.2.2.1 h100 hcg, fun U hU hW => ⟨rfl, hG U hU hW⟩⟩ rfl hn hl9.1.1 rfl (lroom hcs hk) d ⟨hc, hs⟩
  · exact va_runVN (Ts := lw_all) (C := q.1) (b := b) (As := As) ⟨K.x, K.b, K.ml, K.o, fun w h => K.wd h⟩ hR.2 ⟨callN9 (φ1 := (σ, .inr v, σ1)) K hy hd hl, K.wd hin, K.wd hsel⟩ ⟨Gd.blind, recv9 K hr9.2.2.1 h100 hcg, fun U hU hW => ⟨rfl, hG U hU hW⟩⟩ rfl hn hl9.1.1 rfl (lroom hcs hk) d ⟨hc, hs⟩
theorem J_callS (n : Nat) (d : decode μ.1 pc = .ok (.invokestatic idx, 3)) (e : pc + 3 = n) (hy : YK y μ1 na) (hl : LK μ.2.1 idx y) (hstt : Cond.static y ∈ lw_all) (hd : μ1.2.2.2.2.1 + 1 ≤ μ.2.2.2.2.1) (hcs : cs rest k9) (hk : k9 ≤ 8) (hn : As.length = na) (hst : st = As.reverse ++ rest) (hR : Rn γ μ1 y As (σ, .inr v, σ1)) (k : J γ μ φ σ1 n l (v.toList ++ rest)) : J γ μ φ σ pc l st := by
  subst hst
  refine J_run (a := As.toArray) e hR.1 (fun p e R s m args below meth c K H locs cells slots ls hr9 hl9 hG hc hs => ?_) k
  rcases hl with hl | ⟨host, hl⟩
  · exact va_runS (Ts := lw_all) (As := As) ⟨K.x, K.b, K.ml, K.o, fun w h => K.wd h⟩ hR.2 ⟨callB9 (φ1 := (σ, .inr v, σ1)) K hy hd hl, K.wd hstt⟩ ⟨Gd.blind, fun U hU hW => ⟨rfl, hG U hU hW⟩⟩ rfl hn hl9.1.1 rfl (lroom hcs hk) d ⟨hc, hs⟩
  · exact va_runSN (Ts := lw_all) (As := As) ⟨K.x, K.b, K.ml, K.o, fun w h => K.wd h⟩ hR.2 ⟨callN9 (φ1 := (σ, .inr v, σ1)) K hy hd hl, K.wd hstt, trivial⟩ ⟨Gd.blind, fun U hU hW => ⟨rfl, hG U hU hW⟩⟩ rfl hn hl9.1.1 rfl (lroom hcs hk) d ⟨hc, hs⟩
theorem J_callI (n : Nat) (d : decode μ.1 pc = .ok (.invokespecial idx, 3)) (e : pc + 3 = n) (hy : YK y μ1 na) (hret : μ1.2.2.2.1 = none) (hl : LK μ.2.1 idx y) (hin : Cond.instanceMethod y ∈ lw_all) (hy1 : y.name = "<init>") (hd : μ1.2.2.2.2.1 + 1 ≤ μ.2.2.2.2.1) (hcs : cs rest k9) (hk : k9 ≤ 8) (hn : As.length = na) (hst : st = As.reverse ++ va_rf (some b) :: rest) (hR : Rn γ μ1 y (va_rf (some b) :: As) (σ, .inr none, σ1)) (k : J γ μ φ σ1 n l rest) : J γ μ φ σ pc l st := by
  subst hst
  refine J_run (v := none) (a := (Value.ref b :: As).toArray) e hR.1 (fun p e R s m args below meth c K H locs cells slots ls hr9 hl9 hG hc hs => ?_) k
  have hM := hR.2
  have hB := fun (hl : Cond.methodLink μ.2.1 idx y ∈ lw_all) => callB9 (args := args) (φ1 := (σ, .inr none, σ1)) K hy hd hl
  have hN := fun (host : String) (hl : Cond.methodLinkNest μ.2.1 idx y host ∈ lw_tbl) => callN9 (args := args) (φ1 := (σ, .inr none, σ1)) K hy hd hl
  dsimp only at hM
  rw [hret] at hM hB hN
  rcases hl with hl | ⟨host, hl⟩
  · exact va_runI (Ts := lw_all) (As := As) (b := b) ⟨K.x, K.b, K.ml, K.o, fun w h => K.wd h⟩ hM ⟨hB hl, hy1, K.wd hin⟩ ⟨Gd.blind, fun U hU hW => ⟨rfl, hG U hU hW⟩⟩ rfl hn hl9.1.1 rfl (lroom hcs hk) d ⟨hc, hs⟩
  · exact va_runIN (Ts := lw_all) (As := As) (b := b) ⟨K.x, K.b, K.ml, K.o, fun w h => K.wd h⟩ hM ⟨hN host hl, hy1, K.wd hin⟩ ⟨Gd.blind, fun U hU hW => ⟨rfl, hG U hU hW⟩⟩ rfl hn hl9.1.1 rfl (lroom hcs hk) d ⟨hc, hs⟩
end Calls
end JM
