set_option maxRecDepth 100000
/-! ROWS: clone of a byte[] -/
section CLW
variable {p : Program} {l : Launch} {e : Env} {R : Room} {s : State} {m : MethodId} {args : Array Value} {below : List Frame} {meth : Method} {c : Code} {H : Heap} {locs : List Loc} {cells slots : Nat} {Q : State → Prop} {cc : ByteArray} {pc a : Nat} {ls : Array Slot} {rest : List Value} {D : va_G} {cl : List vw_C} {tys : List (ClassId × FieldType)}
theorem W_cloneB (hexec : p.tables.exec = Jvm.exec) (hb : c.code = cc) (hml : c.maxLocals = ls.size) {own : String} {index : Nat} (hown : s.vm.findClass own = some m.cls)
    (hlink : (Cond.methodLink own index ⟨"[B", "clone", "()Ljava/lang/Object;"⟩).before args s = true) (hsame : (Cond.sameMethod "[B" "java/lang/Object" "clone" "()Ljava/lang/Object;").before args s = true)
    (hnat : (Cond.native ⟨"java/lang/Object", "clone", "()Ljava/lang/Object;"⟩).before args s = true) (hinst : (Cond.instanceMethod ⟨"java/lang/Object", "clone", "()Ljava/lang/Object;"⟩).before args s = true)
    (hsel : (Cond.selects "[B" ⟨"[B", "clone", "()Ljava/lang/Object;"⟩ ⟨"java/lang/Object", "clone", "()Ljava/lang/Object;"⟩).before args s = true) (hcl : va_Nw (.castable "[B" "java/lang/Cloneable") s)
    (hK : va_K D cl tys s) {t0 : Nat} {cA : ClassId} {n : Nat} {f : Nat → Int32} (ha : H[a]? = some (arrV cA n (fun j => .int (f j)))) (ht : tys[t0]? = some (cA, .byte))
    (hnm : s.vm.findClass "[B" = some cA) (hfit : ∀ i, i < n → fits .byte (.int (f i)) = true)
    (hframes : 1 ≤ R.frames) (hlocals : (rest.map fun v => v.category).sum + 14 ≤ R.locals) (hcells : cells + 1 ≤ R.cells) (hslots : slots + n ≤ R.slots) (hdg : decode cc pc = .ok (.invokevirtual index, 3))
    (kk : W p l e R s m args below meth c (H.push (arrV cA n (fun j => .int (f j)))) locs (cells + 1) (slots + n) Q (F0 m (pc + 3) ls (.ref H.size :: rest))) : W p l e R s m args below meth c H locs cells slots Q (F0 m pc ls (.ref a :: rest)) := by
  obtain ⟨c0, t1, f1, f2, f3⟩ := Cond.castable_spec (va_Nw.use (A := args) rfl hcl)
  cases hnm.symm.trans f1
  intro T hT X
  have hsz : (arrV cA n (fun j => Value.int (f j))).slots.size = n := arrV_size _ _ _
  obtain ⟨-, kA, hkA, comp, hkind⟩ := State.isArrayOf_alike X.warmed.alike ((hK.2 t0 _ ht).1 0 (fun _ => .null))
  obtain ⟨-, kS, hkS, compS, hkindS⟩ := (hK.2 t0 _ ht).1 0 (fun _ => .null)
  obtain ⟨vm', X', st⟩ := X.cloneArray hexec hown hlink hsame hnat hinst hsel (a := a) (cell := arrV cA n (fun j => .int (f j))) (by rw [hT]; exact ha) (fun k h => by cases h) (fun h => by cases h) hnm f2 f3
    (fun i v hv => by
      have hk' : T.vm.classes[cA]? = some kA := hkA
      have hi : i < n := by have := (Array.getElem?_eq_some_iff.mp hv).1; rw [hsz] at this; exact this
      have hv2 : v = .int (f i) := Option.some.inj (hv.symm.trans (arrV_read cA (fun j => Value.int (f j)) hi))
      subst hv2
      show State.fitsSlot T cA .none i (.int (f i)) = true
      simpa [State.fitsSlot, State.slotType?, hk', hkind] using hfit i hi)
    (g := F0 m pc ls (.ref a :: rest)) rfl (by rw [hml]) rfl (by rw [hb]; exact hdg) hframes (by show 2 * 0 + _ + 14 ≤ _; omega) hcells (by rw [hsz]; exact hslots) (hloader := Vm.clonesLoader_of_array hkS hkindS)
  rw [hsz] at X'
  obtain ⟨t, b1, b2⟩ := kk ((T.setVm vm').pushCell (arrV cA n (fun j => .int (f j)))) (by rw [← hT]; rfl) X'
  refine ⟨t, st t ?_, b2⟩
  rw [hT]
  exact b1
end CLW
def clB (σ : Hp) (r : Option Nat) : Option Hp := r.bind fun a => if htg σ a = 102 ∧ ∀ i, i < hln σ a → fits .byte (.int (hI σ a i)) = true then some (rI (wN σ 102 (hln σ a) (hln σ a)) (hsz σ) (hI σ a)) else none
section JCL
variable {γ : GP} {μ : MP} {φ : FP} {σ : Hp} {pc : Nat} {l : LVs} {st rest : List Value} {idx k9 : Nat}
theorem J.al2 {τ : Hp} {u pc' : Nat} {st' : List Value} (h1 : hlo τ = hlo σ) (hz : hsz τ = hsz σ + 1) (hu : hus τ = hus σ + u) (hs9 : hst τ = hst σ) (ht : ∀ a, a ≠ hsz σ → htg τ a = htg σ a) (hc9 : ∀ a, a ≠ hsz σ → cel (gA γ) τ a = cel (gA γ) σ a)
    (h : ∀ (p : Program) (e : Env) (R : Room) (s : State) (m : MethodId) (args : Array Value) (below : List Frame) (meth : Method) (c : Code) (Q : State → Prop), KOK γ μ φ p R s m meth c → ∀ (H : Heap) (locs : List Loc) (cells slots : Nat) (ls : Array Slot), Rl γ s (hus φ.1) σ H locs cells slots → LV ls μ.2.2.1 l → cells + 1 ≤ R.cells → slots + u ≤ R.slots →
      (∀ H1 : Heap, H1.size = H.size + 1 → (∀ q, q < H.size → H1[q]? = H[q]?) → va_at (gD γ) cg (hsz σ, cel (gA γ) τ (hsz σ)) H1 → W p (gl γ) e R s m args below meth c H1 locs (cells + 1) (slots + u) Q (F0 m pc' ls st')) → W p (gl γ) e R s m args below meth c H locs cells slots Q (F0 m pc ls st))
    (k : J γ μ φ τ pc' l st') : J γ μ φ σ pc l st := by
  have k1 := k.1
  rw [hz, hu] at k1
  refine ⟨⟨by omega, by omega⟩, fun p e R s m args below meth c K H locs cells slots ls hr9 hl => ?_⟩
  have hr := hr9
  obtain ⟨g1, g2, g3, g4, g5, g6, g7⟩ := hr9
  have hrm := K.rm
  have hs0 := K.sz
  refine h p e R s m args below meth c _ K H locs cells slots ls hr hl ?_ ?_ (fun H1 z oq hat => ?_)
  · rw [hrm]
    show cells + 1 ≤ hsz φ.2.2 - hsz φ.1
    omega
  · rw [hrm]
    show slots + u ≤ hus φ.2.2 - hus φ.1
    omega
  · refine k.2 p e R s m args below meth c K H1 locs (cells + 1) (slots + u) ls ⟨by rw [h1]; exact g1, by rw [hz, z, g2], fun a ha => ?_, ⟨Nat.le_trans g4.1 (by omega), fun q h1 h2 => ?_, g4.2.2⟩, by rw [hz]; omega, by rw [hu]; omega, by rw [hs9]; exact g7⟩ hl
    · by_cases e9 : a = hsz σ
      · rw [e9]
        exact hat
      · rw [ht a e9] at ha
        have hh := g3 a ha
        rw [hc9 a e9]
        exact hh.kept (oq a hh.lt)
    · rw [oq q (Nat.lt_of_lt_of_le h1 g4.1)]
      exact g4.2.1 q h1 h2
theorem J_clone {r : Option Nat} {τ : Hp} (h : clB σ r = some τ) (hl : Cond.methodLink μ.2.1 idx ⟨"[B", "clone", "()Ljava/lang/Object;"⟩ ∈ lw_all) (hsame : Cond.sameMethod "[B" "java/lang/Object" "clone" "()Ljava/lang/Object;" ∈ lw_all)
    (hnat : Cond.native ⟨"java/lang/Object", "clone", "()Ljava/lang/Object;"⟩ ∈ lw_all) (hinst : Cond.instanceMethod ⟨"java/lang/Object", "clone", "()Ljava/lang/Object;"⟩ ∈ lw_all)
    (hsel : Cond.selects "[B" ⟨"[B", "clone", "()Ljava/lang/Object;"⟩ ⟨"java/lang/Object", "clone", "()Ljava/lang/Object;"⟩ ∈ lw_all) (hcl : Cond.castable "[B" "java/lang/Cloneable" ∈ lw_tbl)
    (hd : 1 ≤ μ.2.2.2.2.1) (hcs : cs rest k9) (hk : k9 ≤ 8) (n : Nat) (d : decode μ.1 pc = .ok (.invokevirtual idx, 3)) (e : pc + 3 = n) (k : J γ μ φ τ n l (va_rf (some (hsz σ)) :: rest)) : J γ μ φ σ pc l (va_rf r :: rest) := by
  subst e
  obtain ⟨a, rfl, h⟩ := some_of_bind h
  obtain ⟨⟨htg1, hfit⟩, rfl⟩ := ite_some h
  refine J.al2 (τ := rI (wN σ 102 (hln σ a) (hln σ a)) (hsz σ) (hI σ a)) (u := hln σ a) rfl rfl rfl rfl (fun b hb => if_neg hb) (fun b hb => ?_) (fun p e R s m args below meth c Q K H locs cells slots ls hr9 hl9 hc hs w => ?_) k
  · have e1 : htg (rI (wN σ 102 (hln σ a) (hln σ a)) (hsz σ) (hI σ a)) b = htg σ b := if_neg hb
    have e2 : hln (rI (wN σ 102 (hln σ a) (hln σ a)) (hsz σ) (hI σ a)) b = hln σ b := if_neg hb
    have e3 : hI (rI (wN σ 102 (hln σ a) (hln σ a)) (hsz σ) (hI σ a)) b = hI σ b := (if_neg hb).trans (if_neg hb)
    have e4 : hL (rI (wN σ 102 (hln σ a) (hln σ a)) (hsz σ) (hI σ a)) b = hL σ b := if_neg hb
    have e5 : hR (rI (wN σ 102 (hln σ a) (hln σ a)) (hsz σ) (hI σ a)) b = hR σ b := if_neg hb
    have e6 : ∀ ty k, fv ty (rI (wN σ 102 (hln σ a) (hln σ a)) (hsz σ) (hI σ a)) b k = fv ty σ b k := by
      intro ty k
      unfold fv
      rw [e3, e4, e5]
    unfold cel flds elts
    rw [e1, e2, e3, e4, e5]
    simp only [e6]
  have hat := hr9.2.2.1 a (by omega)
  rw [cel_a (t := 2) htg1, elts_I (by decide) (by decide)] at hat
  have h0 : va_RA s (gA γ 2) .byte := (K.k.2 2 _ (tyl_at _ (by decide))).2
  have h1 : s.vm.findClass ("[" ++ FieldType.byte.toString) = some (gA γ 2) := h0
  have e0 : "[" ++ FieldType.byte.toString = "[B" := by decide
  rw [e0] at h1
  have hcast : va_Nw (.castable "[B" "java/lang/Cloneable") s := va_Nw.warmC K.w (va_Nw.of rfl (K.1.1 _ hcl))
  have hsz9 := hr9.2.1
  have hrm := K.rm
  refine W_cloneB (a := a) (t0 := 2) (cA := gA γ 2) (n := hln σ a) (f := hI σ a) K.x K.b (K.ml.trans hl9.1.1.symm) K.o (K.wd hl) (K.wd hsame) (K.wd hnat) (K.wd hinst) (K.wd hsel) hcast K.k hat (tyl_at _ (by decide)) h1 hfit ?_ ?_ hc hs d ?_
  · rw [hrm]; exact hd
  · rw [hrm]
    have h9 : (rest.map fun v => v.category).sum ≤ k9 := hcs
    show _ + 14 ≤ 64 * μ.2.2.2.2.1
    omega
  · rw [hsz9]
    refine w _ (by rw [Array.size_push]) (fun q hq => by rw [Array.getElem?_push, if_neg (Nat.ne_of_lt hq)]) ?_
    have e1 : htg (rI (wN σ 102 (hln σ a) (hln σ a)) (hsz σ) (hI σ a)) (hsz σ) = 100 + 2 := if_pos rfl
    rw [cel_a e1, elts_I (by decide) (by decide)]
    have e2 : hln (rI (wN σ 102 (hln σ a) (hln σ a)) (hsz σ) (hI σ a)) (hsz σ) = hln σ a := if_pos rfl
    have e3 : hI (rI (wN σ 102 (hln σ a) (hln σ a)) (hsz σ) (hI σ a)) (hsz σ) = hI σ a := if_pos rfl
    rw [e2, e3]
    show _ = some _
    rw [← hsz9, Array.getElem?_push_size]
    rfl
end JCL
