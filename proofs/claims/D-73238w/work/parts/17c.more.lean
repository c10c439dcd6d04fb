set_option maxRecDepth 100000
/-! ROWS: arrays of arrays, calls through an interface -/
def wM (σ : Hp) (t ti n k : Nat) : Hp := ((hlo σ, hsz σ + 1 + n, hus σ + (n + n * k), hst σ), ((fun b => if b = hsz σ then 100 + t else if hsz σ < b ∧ b < hsz σ + 1 + n then 100 + ti else htg σ b), (fun b => if b = hsz σ then n else if hsz σ < b ∧ b < hsz σ + 1 + n then k else hln σ b)),
  (fun b => if hsz σ ≤ b ∧ b < hsz σ + 1 + n then fun _ => 0 else hI σ b), (fun b => if hsz σ ≤ b ∧ b < hsz σ + 1 + n then fun _ => 0 else hL σ b), (fun b => if b = hsz σ then fun j => some (hsz σ + 1 + j) else if hsz σ < b ∧ b < hsz σ + 1 + n then fun _ => none else hR σ b))
def nM (t ti : Nat) (σ : Hp) (n k : Int32) : Option Hp := if (0 ≤ n ∧ 0 ≤ k) ∧ n.toNatClampNeg ≤ 100000 ∧ k.toNatClampNeg ≤ 100000 then some (wM σ t ti n.toNatClampNeg k.toNatClampNeg) else none
theorem outerC_arr (c : ClassId) (N h0 : Nat) : ∀ i, Jvm.Free.Multi.outerC c N h0 i = arrV c N (fun j => if j < i then .ref (h0 + 1 + j) else .null)
  | 0 => by
    show ({ cls := c, slots := Array.replicate N .null, vm := .none } : Cell) = _
    rw [arrV_new]
    congr 1
  | i + 1 => by
    show (Jvm.Free.Multi.outerC c N h0 i).setSlot i (.ref (h0 + 1 + i)) = _
    rw [outerC_arr c N h0 i, arrV_store]
    congr 1
    funext j
    unfold updV
    by_cases h : j = i
    · subst h
      rw [if_pos rfl, if_pos (by omega)]
    · rw [if_neg h]
      dsimp only
      by_cases h2 : j < i
      · rw [if_pos h2, if_pos (by omega)]
      · rw [if_neg h2, if_neg (by omega)]
theorem arrV_congr {c : ClassId} {N : Nat} {f g : Nat → Value} (h : ∀ j, j < N → f j = g j) : arrV c N f = arrV c N g := by
  unfold arrV
  congr 1
  apply Array.ext
  · simp
  · intro i h1 h2
    simp only [Array.getElem_ofFn]
    exact h i (by simpa using h1)
section JMu
variable {γ : GP} {μ : MP} {φ : FP} {σ : Hp} {pc : Nat} {l : LVs} {st : List Value}
theorem J_multi {ty : FieldType} {i k : Int32} {τ : Hp} {idx : Nat} (t ti : Nat) (ht5 : 5 ≤ t) (ht : t < 7) (hti : ti < 2) (hty : ag.getD ti .int = ty) (htyo : ag.getD t .int = .array ty) (hdv : ∀ (σ : Hp) (a : Nat), hI σ a = (fun _ => 0) → hL σ a = (fun _ => 0) → ∀ c n, vp_cell c (n, elts ti σ a) = arrV c n (fun _ => defaultValue ty)) (hb8 : componentBytes ty ≤ 8) (hdf : fits ty (defaultValue ty) = true) (hdd : (defaultValue ty).isDefault = true) (hw : Cond.arrayClass ty ∈ lw_all) (hcl : Cond.classLink μ.2.1 idx ("[" ++ (FieldType.array ty).toString) ∈ lw_all) (hao : Cond.arrayOver (.array ty) ∈ lw_tbl)
    (hra : ∀ U cA, va_RA U cA ty → U.vm.findClass ("[" ++ ty.toString) = some cA) (hst9 : (FieldType.array ty).toString = "[" ++ ty.toString) (n : Nat) (d : decode μ.1 pc = .ok (.multianewarray idx 2, 4)) (e : pc + 4 = n) (h : nM t ti σ i k = some τ) (k9 : J γ μ φ τ n l (va_rf (some (hsz σ)) :: st)) : J γ μ φ σ pc l (.int k :: .int i :: st) := by
  subst e
  obtain ⟨⟨⟨h0, h0'⟩, h1, h1'⟩, rfl⟩ := ite_some h
  generalize hN : i.toNatClampNeg = N at *
  generalize hM : k.toNatClampNeg = M at *
  have hz : hsz (wM σ t ti N M) = hsz σ + 1 + N := rfl
  have hu : hus (wM σ t ti N M) = hus σ + (N + N * M) := rfl
  have k1 := k9.1
  rw [hz, hu] at k1
  refine ⟨⟨by omega, by omega⟩, fun p e R s m args below meth c K H locs cells slots ls hr9 hl => ?_⟩
  obtain ⟨g1, g2, g3, g4, g5, g6, g7⟩ := hr9
  have hrm := K.rm
  have hs0 := K.sz
  intro T hT X
  have hov : (Cond.arrayOver (.array ty)).before args s = true := over_moved K.w.alike (K.1.1 _ hao)
  obtain ⟨vm₁, cA, comp, hW, hfA, hfC, hO, hIn, X1, step⟩ := X.multianewarray2F K.x K.o (K.wd hcl) hov (K.wd hw) (g := F0 m pc ls (.int k :: .int i :: st)) rfl (by rw [K.b]; exact d) (n := i) (k := k) (rest := st) rfl (Int32.not_lt.mpr h0) (Int32.not_lt.mpr h0') (by rw [hN]; omega) (by rw [hM]; exact Nat.le_trans (Nat.mul_le_mul h1' hb8) (by decide)) (by rw [hM]; omega) hdf hdd
    (by rw [hrm, hN]; show _ ≤ hsz φ.2.2 - hsz φ.1; omega) (by rw [hrm, hN, hM]; show _ ≤ hus φ.2.2 - hus φ.1; omega)
  rw [hN, hM] at X1 step
  have hTh : (T.setVm vm₁).heap = H := hT
  obtain ⟨f1, f2, f3, f4⟩ := Jvm.Free.Multi.fill_facts (T.setVm vm₁) cA comp N M (defaultValue ty) N
  have fo := fun (a : Nat) (ha : a < (T.setVm vm₁).heap.size) => Jvm.Free.Multi.fill_old (T.setVm vm₁) cA comp N M (defaultValue ty) ha N
  have fi := Jvm.Free.Multi.fill_inner (T.setVm vm₁) cA comp N M (defaultValue ty) N
  rw [hTh] at f1 f2 fo fi
  have hko := K.k.2 t _ (tyl_at _ (by omega))
  have hki := K.k.2 ti _ (tyl_at _ (by omega))
  dsimp only at hko hki
  rw [htyo] at hko
  rw [hty] at hki
  have hcA : cA = gA γ t := Option.some.inj (hfA.symm.trans hko.2)
  have hco : comp = gA γ ti := Option.some.inj (hfC.symm.trans (by rw [hst9]; exact hra s _ hki.2))
  subst hcA
  subst hco
  generalize hF : (Jvm.Free.Multi.fill (T.setVm vm₁) (gA γ t) (gA γ ti) N M (defaultValue ty) N) = F at *
  have hrel : Rl γ s (hus φ.1) (wM σ t ti N M) F.heap locs (cells + 1 + N) (slots + N + N * M) := by
    refine ⟨g1, by rw [hz, f1, g2], fun a ha => ?_, ⟨by rw [f1]; exact Nat.le_trans g4.1 (by omega), fun q h1 h2 => ?_, g4.2.2⟩, by rw [hz]; omega, by rw [hu]; omega, g7⟩
    · by_cases e9 : a = hsz σ
      · subst e9
        have e1 : htg (wM σ t ti N M) (hsz σ) = 100 + t := if_pos rfl
        have e2 : hln (wM σ t ti N M) (hsz σ) = N := if_pos rfl
        have e5 : hR (wM σ t ti N M) (hsz σ) = fun j => some (hsz σ + 1 + j) := if_pos rfl
        rw [cel_a e1, elts_R ht5, e2, e5]
        show F.heap[hsz σ]? = some (vp_cell (gA γ t) (N, .inr (.inr (.inr (.inr (fun j => some (hsz σ + 1 + j)))))))
        rw [vp_cell_q, ← g2, f2, outerC_arr]
        congr 1
        apply arrV_congr
        intro j hj
        rw [if_pos hj]
        rfl
      · by_cases e8 : hsz σ < a ∧ a < hsz σ + 1 + N
        · have e1 : htg (wM σ t ti N M) a = 100 + ti := by show (if a = hsz σ then _ else _) = _; rw [if_neg e9, if_pos e8]
          have e2 : hln (wM σ t ti N M) a = M := by show (if a = hsz σ then _ else _) = _; rw [if_neg e9, if_pos e8]
          have e3 : hI (wM σ t ti N M) a = fun _ => 0 := if_pos ⟨by omega, by omega⟩
          have e4 : hL (wM σ t ti N M) a = fun _ => 0 := if_pos ⟨by omega, by omega⟩
          rw [cel_a e1, e2]
          show F.heap[a]? = some (vp_cell (gA γ ti) (M, elts ti (wM σ t ti N M) a))
          rw [hdv _ _ e3 e4]
          have := fi (a - hsz σ - 1) (by omega)
          rw [show Array.size H + 1 + (a - hsz σ - 1) = a by omega] at this
          rw [this]
          show some ({ cls := gA γ ti, slots := Array.replicate M (defaultValue ty), vm := .none } : Cell) = _
          rw [arrV_new]
        · have e1 : htg (wM σ t ti N M) a = htg σ a := by show (if a = hsz σ then _ else _) = _; rw [if_neg e9, if_neg e8]
          rw [e1] at ha
          have hh := g3 a ha
          have hlt := hh.lt
          dsimp only at hlt
          have e2 : hln (wM σ t ti N M) a = hln σ a := by show (if a = hsz σ then _ else _) = _; rw [if_neg e9, if_neg e8]
          have e3 : hI (wM σ t ti N M) a = hI σ a := if_neg (by omega)
          have e4 : hL (wM σ t ti N M) a = hL σ a := if_neg (by omega)
          have e5 : hR (wM σ t ti N M) a = hR σ a := by show (if a = hsz σ then _ else _) = _; rw [if_neg e9, if_neg e8]
          have e6 : cel (gA γ) (wM σ t ti N M) a = cel (gA γ) σ a := by
            have e7 : ∀ ty k, fv ty (wM σ t ti N M) a k = fv ty σ a k := by
              intro ty k
              unfold fv
              rw [e3, e4, e5]
            unfold cel flds elts
            simp only [e1, e2, e3, e4, e5, e7]
          rw [e6]
          exact hh.kept (fo a hlt)
    · rw [fo q (Nat.lt_of_lt_of_le h1 g4.1)]
      exact g4.2.1 q h1 h2
  obtain ⟨t2, a1, b1⟩ := k9.2 p e R s m args below meth c K F.heap locs (cells + 1 + N) (slots + N + N * M) ls hrel hl F rfl X1
  refine ⟨t2, step t2 ?_, b1⟩
  have hsz0 : T.heap.size = hsz σ := by rw [hT]; exact g2
  rw [hsz0]
  exact a1
theorem J_multiI {i k : Int32} {τ : Hp} {idx : Nat} (hcl : Cond.classLink μ.2.1 idx "[[I" ∈ lw_all) (n : Nat) (d : decode μ.1 pc = .ok (.multianewarray idx 2, 4)) (e : pc + 4 = n) (h : nM 5 0 σ i k = some τ) (k9 : J γ μ φ τ n l (va_rf (some (hsz σ)) :: st)) : J γ μ φ σ pc l (.int k :: .int i :: st) :=
  J_multi 5 0 (by decide) (by decide) (by decide) rfl rfl (fun σ a e3 _ c n => by rw [elts_I (by decide) (by decide), e3, vp_cell_i]; rfl) (by decide) rfl rfl q275 (by exact hcl) q221 (fun _ _ h => h) rfl n d e h k9
theorem J_multiL {i k : Int32} {τ : Hp} {idx : Nat} (hcl : Cond.classLink μ.2.1 idx "[[J" ∈ lw_all) (n : Nat) (d : decode μ.1 pc = .ok (.multianewarray idx 2, 4)) (e : pc + 4 = n) (h : nM 6 1 σ i k = some τ) (k9 : J γ μ φ τ n l (va_rf (some (hsz σ)) :: st)) : J γ μ φ σ pc l (.int k :: .int i :: st) :=
  J_multi 6 1 (by decide) (by decide) (by decide) rfl rfl (fun σ a _ e4 c n => by rw [elts_L, e4, vp_cell_l]; rfl) (by decide) rfl rfl q276 (by exact hcl) q378 (fun _ _ h => h) rfl n d e h k9
end JMu

theorem lw_F {own C : String} {idx : Nat} {x y : MethodName} {w : Cond} (h1 : Cond.methodLink own idx x ∈ lw_all) (h3 : Cond.selects C x y ∈ lw_all) (h4 : Cond.instanceMethod y ∈ lw_all) (h5 : Cond.initialized y.cls ∈ lw_all) (h6 : w ∈ lw_all) : GoodIn lw_all (va_wsF own idx C x y [w]) := by
  refine lw_app ?_ (fun z hz => by rw [List.mem_singleton.mp hz]; exact lw_self _ h6)
  intro w hw
  simp only [List.mem_cons, List.not_mem_nil, or_false] at hw
  rcases hw with e | e | e | e
  · rw [e]; exact h1
  · rw [e]; exact h3
  · rw [e]; exact h4
  · rw [e]; exact h5
/-- .. through an interface -/
def UF (γ : GP) (D : Nat) (x : MethodName) (na : Nat) (r : Option Nat) (As : List Value) (φ : FP) : Prop := ∃ (b : Nat) (q : vw_C) (y : MethodName) (μ1 : MP), r = some b ∧ htg φ.1 b < 100 ∧ cg[htg φ.1 b]? = some q ∧ YK y μ1 na ∧ Cond.selects q.1 x y ∈ lw_all ∧ Cond.instanceMethod y ∈ lw_all ∧ μ1.2.2.2.2.1 ≤ D ∧ Rn γ μ1 y (va_rf r :: As) φ ∧ (Cond.declares x ∈ lw_tbl ∧ Cond.interfaceMethod x.cls x.cls x.name x.desc ∈ lw_tbl ∧ Cond.publicMethod y ∈ lw_tbl ∧ Cond.unhidden q.1 x.name x.desc ∈ lw_tbl ∧ Cond.castable q.1 x.cls ∈ lw_tbl)
theorem UF.of {γ : GP} {D na c9 : Nat} {x y : MethodName} {r : Option Nat} {As : List Value} {φ : FP} {q : vw_C} {μ1 : MP} {b : Nat} (hb : cT φ.1 r c9 = some b) (h100 : c9 < 100) (hcg : cg[c9]? = some q) (hy : YK y μ1 na) (hs : Cond.selects q.1 x y ∈ lw_all) (hi : Cond.instanceMethod y ∈ lw_all) (hD : μ1.2.2.2.2.1 ≤ D) (hF : Cond.declares x ∈ lw_tbl ∧ Cond.interfaceMethod x.cls x.cls x.name x.desc ∈ lw_tbl ∧ Cond.publicMethod y ∈ lw_tbl ∧ Cond.unhidden q.1 x.name x.desc ∈ lw_tbl ∧ Cond.castable q.1 x.cls ∈ lw_tbl) (hR : Rn γ μ1 y (va_rf r :: As) φ) : UF γ D x na r As φ := by
  obtain ⟨h1, h2⟩ := cT_of hb
  subst h2
  exact ⟨b, q, y, μ1, h1, h100, hcg, hy, hs, hi, hD, hR, hF⟩
section JF
variable {γ : GP} {μ : MP} {φ : FP} {σ σ1 : Hp} {pc n : Nat} {l : LVs} {st rest : List Value} {v : Option Value} {a : Array Value}
theorem J_run5 (e : pc + 5 = n) (hm : hsz σ ≤ hsz σ1 ∧ hus σ ≤ hus σ1)
    (h : ∀ (p : Program) (e : Env) (R : Room) (s : State) (m : MethodId) (args : Array Value) (below : List Frame) (meth : Method) (c : Code), KOK γ μ φ p R s m meth c → ∀ (H : Heap) (locs : List Loc) (cells slots : Nat) (ls : Array Slot), Rl γ s (hus φ.1) σ H locs cells slots → LV ls μ.2.2.1 l → (∀ U : State, U.heap = H → s.WarmedH U.vm → Gd γ σ U) → cells + (hsz σ1 - hsz σ) ≤ R.cells → slots + (hus σ1 - hus σ) ≤ R.slots →
      va_Run5 p (gl γ) e R s m args below meth c H locs cells slots (hsz σ1 - hsz σ) (hus σ1 - hus σ) (F0 m pc ls st) rest (Qr γ v σ1 a) (gF γ))
    (k : J γ μ φ σ1 n l (v.toList ++ rest)) : J γ μ φ σ pc l st := by
  subst e
  have k1 := k.1
  refine ⟨⟨by omega, by omega⟩, fun p e R s m args below meth c K H locs cells slots ls hr9 hl => ?_⟩
  have hr := hr9
  obtain ⟨g1, g2, g3, g4, g5, g6, g7⟩ := hr9
  have hrm := K.rm
  have hs0 := K.sz
  have hrun := h p e R s m args below meth c K H locs cells slots ls hr hl (fun U hU hW => Gd.of K hr hU hW) (by rw [hrm]; show _ ≤ hsz φ.2.2 - hsz φ.1; omega) (by rw [hrm]; show _ ≤ hus φ.2.2 - hus φ.1; omega)
  intro T hT X
  obtain ⟨v', st₀, t, T', L, h0, X', hL, e1, e2, ⟨hv, hg, hf⟩, stp⟩ := hrun T hT X
  cases hv
  obtain ⟨f1, f2, f3, f4, f5, f6, f7⟩ := hg
  have hf1 := hf.1
  rw [h0] at hf1
  have hlo := K.lo
  have hold := K.old
  obtain ⟨t2, a1, b1⟩ := k.2 p e R s m args below meth c K T'.heap (locs ++ L) (cells + (hsz σ1 - hsz σ)) (slots + (hus σ1 - hus σ)) ls
    ⟨f2, by rw [e1]; exact f4, by rw [e1]; exact f5, ⟨by rw [e1]; exact Nat.le_trans g4.1 hf1, fun q h1 h2 => by
        have hq : q < (gs γ).heap.size := by
          rcases Nat.lt_or_ge q (gs γ).heap.size with z | z
          · exact z
          · exact absurd z h2
        rw [e1, f6 q hq, hold q hq], fun q hq => by
        rcases List.mem_append.mp hq with z | z
        · exact g4.2.2 q z
        · exact hL q z⟩, by omega, by omega, f7⟩ hl T' rfl X'
  exact ⟨t2, stp t2 a1, b1⟩
end JF
section JF2
variable {γ : GP} {μ : MP} {φ : FP} {σ σ1 : Hp} {pc : Nat} {l : LVs} {st rest : List Value} {v : Option Value} {idx cnt na k9 D : Nat} {x : MethodName} {r : Option Nat}
theorem J_callF (n : Nat) (d : decode μ.1 pc = .ok (.invokeinterface idx cnt, 5)) (e : pc + 5 = n) (hl : Cond.methodLink μ.2.1 idx x ∈ lw_all) (hx : x.cls ≠ "java/lang/invoke/MethodHandle" ∧ x.cls ≠ "java/lang/invoke/VarHandle" ∧ (parseMethodDescriptor x.desc).map (fun d => d.parameters.length) = some na) (hd : D + 1 ≤ μ.2.2.2.2.1) (hcs : cs rest k9) (hk : k9 ≤ 8) (As : List Value) (hn : As.length = na) (hst : st = As.reverse ++ va_rf r :: rest) (hU : UF γ D x na r As (σ, .inr v, σ1)) (k : J γ μ φ σ1 n l (v.toList ++ rest)) : J γ μ φ σ pc l st := by
  subst hst
  obtain ⟨b, q, y, μ1, rfl, h100, hcg, hy, hsel, hin, hD, hR, hF⟩ := hU
  refine J_run5 (a := (Value.ref b :: As).toArray) e hR.1 (fun p e R s m args below meth c K H locs cells slots ls hr9 hl9 hG hc hs => ?_) k
  have hFw : va_Fw q.1 x y s := va_Fw.moved ⟨hx.1, hx.2.1⟩ K.w.alike (va_Fw.of (K.1.1 _ hF.1) (K.1.1 _ hF.2.1) (K.1.1 _ hF.2.2.1) (K.1.1 _ hF.2.2.2.1) (K.1.1 _ hF.2.2.2.2))
  exact va_runF (Ts := lw_all) (C := q.1) (b := b) (As := As) (K.k.1 _ q hcg).2 ⟨K.x, K.b, K.ml, K.o, fun w h => K.wd h⟩ hR.2 (va_cwF na (fun w h => K.wd h) (lw_F hl hsel hin hy.2.1 hy.1) rfl rfl rfl hFw hx (locW (φ1 := (σ, .inr v, σ1)) hy.2.2.2.2.1 (by omega) K.rm)) ⟨Gd.blind, recv9 K hr9.2.2.1 h100 hcg, fun U hU hW => ⟨rfl, hG U hU hW⟩⟩ rfl hn hl9.1.1 rfl (lroom hcs hk) d ⟨hc, hs⟩
theorem J_cFi {z : Int32} (n : Nat) (d : decode μ.1 pc = .ok (.invokeinterface idx cnt, 5)) (e : pc + 5 = n) (hl : Cond.methodLink μ.2.1 idx x ∈ lw_all) (hx : x.cls ≠ "java/lang/invoke/MethodHandle" ∧ x.cls ≠ "java/lang/invoke/VarHandle" ∧ (parseMethodDescriptor x.desc).map (fun d => d.parameters.length) = some na) (hd : D + 1 ≤ μ.2.2.2.2.1) (hcs : cs rest k9) (hk : k9 ≤ 8) (As : List Value) (hn : As.length = na) (hst : st = As.reverse ++ va_rf r :: rest) (hU : UF γ D x na r As (σ, .inr (some (.int z)), σ1)) (k : J γ μ φ σ1 n l (.int z :: rest)) : J γ μ φ σ pc l st :=
  J_callF n d e hl hx hd hcs hk As hn hst hU k
theorem J_cFl {z : Int64} (n : Nat) (d : decode μ.1 pc = .ok (.invokeinterface idx cnt, 5)) (e : pc + 5 = n) (hl : Cond.methodLink μ.2.1 idx x ∈ lw_all) (hx : x.cls ≠ "java/lang/invoke/MethodHandle" ∧ x.cls ≠ "java/lang/invoke/VarHandle" ∧ (parseMethodDescriptor x.desc).map (fun d => d.parameters.length) = some na) (hd : D + 1 ≤ μ.2.2.2.2.1) (hcs : cs rest k9) (hk : k9 ≤ 8) (As : List Value) (hn : As.length = na) (hst : st = As.reverse ++ va_rf r :: rest) (hU : UF γ D x na r As (σ, .inr (some (.long z)), σ1)) (k : J γ μ φ σ1 n l (.long z :: rest)) : J γ μ φ σ pc l st :=
  J_callF n d e hl hx hd hcs hk As hn hst hU k
theorem J_cFr {z : Option Nat} (n : Nat) (d : decode μ.1 pc = .ok (.invokeinterface idx cnt, 5)) (e : pc + 5 = n) (hl : Cond.methodLink μ.2.1 idx x ∈ lw_all) (hx : x.cls ≠ "java/lang/invoke/MethodHandle" ∧ x.cls ≠ "java/lang/invoke/VarHandle" ∧ (parseMethodDescriptor x.desc).map (fun d => d.parameters.length) = some na) (hd : D + 1 ≤ μ.2.2.2.2.1) (hcs : cs rest k9) (hk : k9 ≤ 8) (As : List Value) (hn : As.length = na) (hst : st = As.reverse ++ va_rf r :: rest) (hU : UF γ D x na r As (σ, .inr (some (va_rf z)), σ1)) (k : J γ μ φ σ1 n l (va_rf z :: rest)) : J γ μ φ σ pc l st :=
  J_callF n d e hl hx hd hcs hk As hn hst hU k
theorem J_cFv  (n : Nat) (d : decode μ.1 pc = .ok (.invokeinterface idx cnt, 5)) (e : pc + 5 = n) (hl : Cond.methodLink μ.2.1 idx x ∈ lw_all) (hx : x.cls ≠ "java/lang/invoke/MethodHandle" ∧ x.cls ≠ "java/lang/invoke/VarHandle" ∧ (parseMethodDescriptor x.desc).map (fun d => d.parameters.length) = some na) (hd : D + 1 ≤ μ.2.2.2.2.1) (hcs : cs rest k9) (hk : k9 ≤ 8) (As : List Value) (hn : As.length = na) (hst : st = As.reverse ++ va_rf r :: rest) (hU : UF γ D x na r As (σ, .inr (none), σ1)) (k : J γ μ φ σ1 n l (rest)) : J γ μ φ σ pc l st :=
  J_callF n d e hl hx hd hcs hk As hn hst hU k
end JF2
