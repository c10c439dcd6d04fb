set_option maxRecDepth 100000
/-! ROWS: System.arraycopy, switches -/
section WC
variable {p : Program} {l : Launch} {e : Env} {R : Room} {s : State} {m : MethodId} {args : Array Value} {below : List Frame} {meth : Method} {c : Code} {H : Heap} {locs : List Loc} {cells slots : Nat} {Q : State → Prop}
theorem nonneg_toInt {z : Int32} (hz : ¬ z < 0) : z.toInt = (z.toNatClampNeg : Int) := by
  have hz0 : (0 : Int) ≤ z.toInt := by
    have := Int32.not_lt.mp hz
    simpa using Int32.le_iff_toInt_le.mp this
  show z.toInt = ((z.toInt.toNat : Nat) : Int)
  omega
theorem w_copy {α : Type} (mk : α → Value) {cc : ByteArray} {pc : Nat} {ls : Array Slot} {rest : List Value} {own : String} {idx a0 a n0 n1 : Nat} {c0 c1 : ClassId} {f g : Nat → α} {ty0 ty1 : FieldType} (hx : p.tables.exec = Jvm.exec) (hb : c.code = cc) (hml : c.maxLocals = ls.size) (hown : s.vm.findClass own = some m.cls) (hlink : (Cond.methodLink own idx arraycopyName).before args s = true) (hnat : (Cond.native arraycopyName).before args s = true) (hstat : (Cond.static arraycopyName).before args s = true) (hini : (Cond.initialized "java/lang/System").before args s = true)
    (hc0 : H[a0]? = some (arrV c0 n0 (fun j => mk (f j)))) (hc1 : H[a]? = some (arrV c1 n1 (fun j => mk (g j)))) (ha0 : ArrOfT s c0 ty0) (ha1 : ArrOfT s c1 ty1) (hty : ((refKind ty0 != refKind ty1) || (!refKind ty0 && ty0 != ty1)) = false)
    {sp dp n : Int32} (h1 : ¬ sp < 0) (h2 : ¬ dp < 0) (h3 : ¬ n < 0) (h4 : sp.toNatClampNeg + n.toNatClampNeg ≤ n0) (h5 : dp.toNatClampNeg + n.toNatClampNeg ≤ n1)
    (hval : ∀ (T : State) (k1 : Class) (cm1 : ClassId), T.heap = H → s.vm.classes[c1]? = some k1 → k1.kind = .array cm1 ty1 → ∀ vm', s.vm.Alike vm' → ∀ i, i < n.toNatClampNeg → fits ty1 (mk (f (sp.toNatClampNeg + i))) = true ∧ (T.setVm vm').takes cm1 (mk (f (sp.toNatClampNeg + i))))
    (hframes : 1 ≤ R.frames) (hlocals : (rest.map fun v => v.category).sum + 18 ≤ R.locals) (hdg : decode cc pc = .ok (.invokestatic idx, 3))
    (kk : ∀ (H1 : Heap) (L : List Loc), H1[a]? = some (arrV c1 n1 (fun j => mk (va_cpy f g sp.toNatClampNeg dp.toNatClampNeg n.toNatClampNeg j))) → H1.size = H.size → (∀ q, q ≠ a → H1[q]? = H[q]?) → (∀ x ∈ L, x.base = a) → W p l e R s m args below meth c H1 (locs ++ L) cells slots Q (F0 m (pc + 3) ls rest)) : W p l e R s m args below meth c H locs cells slots Q (F0 m pc ls (.int n :: .int dp :: .ref a :: .int sp :: .ref a0 :: rest)) := by
  intro T hT X
  obtain ⟨-, k0, hk0, cm0, hkk0⟩ := ha0 n0 (fun j => mk (f j))
  obtain ⟨-, k1, hk1, cm1, hkk1⟩ := ha1 n1 (fun j => mk (g j))
  obtain ⟨vm', X', step⟩ := X.arraycopy hx hown hlink hnat hstat hini (src := a0) (dst := a) (srcPos := sp) (destPos := dp) (n := n) (by rw [hT]; exact hc0) (by rw [hT]; exact hc1)
    (fun _ h => by cases h) (fun _ h => by cases h) (fun h => by cases h) (fun h => by cases h) hk0 hk1 hkk0 hkk1 hty h1 h2 h3
    (by rw [nonneg_toInt h1, nonneg_toInt h3, arrV_size]; omega) (by rw [nonneg_toInt h2, nonneg_toInt h3, arrV_size]; omega)
    (fun vm₁ hal i hi => by
      have e : (arrV c0 n0 (fun j => mk (f j))).slots.getD (sp.toNatClampNeg + i) .null = mk (f (sp.toNatClampNeg + i)) := by
        rw [Array.getD_eq_getD_getElem?, arrV_read _ _ (by omega)]
        rfl
      rw [e]
      exact hval T k1 cm1 hT hk1 hkk1 vm₁ hal i hi)
    (g := F0 m pc ls (.int n :: .int dp :: .ref a :: .int sp :: .ref a0 :: rest)) rfl (by rw [hml]) (rest := rest) rfl (by rw [hb]; exact hdg) hframes (by show 2 * 0 + _ + (nativeFrameWords "java/lang/System" "arraycopy" 5 + 11) ≤ _; rw [show nativeFrameWords "java/lang/System" "arraycopy" 5 = 7 from rfl]; omega)
  have e1 : copied (arrV c0 n0 (fun j => mk (f j))) (arrV c1 n1 (fun j => mk (g j))) sp dp n = arrV c1 n1 (fun j => mk (va_cpy f g sp.toNatClampNeg dp.toNatClampNeg n.toNatClampNeg j)) := va_copied mk c0 c1 f g h4
  rw [e1] at X' step
  have hl : a < H.size := (Array.getElem?_eq_some_iff.mp hc1).1
  have hheap : ((T.setVm vm').setCell a (arrV c1 n1 (fun j => mk (va_cpy f g sp.toNatClampNeg dp.toNatClampNeg n.toNatClampNeg j)))).heap = H.setIfInBounds a (arrV c1 n1 (fun j => mk (va_cpy f g sp.toNatClampNeg dp.toNatClampNeg n.toNatClampNeg j))) := by rw [← hT]; rfl
  obtain ⟨t, b1, b2⟩ := kk _ _ (by simp [Array.getElem?_setIfInBounds, hl]) (by simp) (fun q hq => by simp [Array.getElem?_setIfInBounds, Ne.symm hq]) (fun x hx => by obtain ⟨z, -, hz⟩ := List.mem_map.mp hx; rw [← hz]) _ hheap X'
  exact ⟨t, step t b1, b2⟩
end WC
def cok (σ : Hp) (a0 : Nat) (sp : Int32) (a : Nat) (dp n : Int32) : Prop := (0 ≤ sp ∧ 0 ≤ dp ∧ 0 ≤ n) ∧ sp.toNatClampNeg + n.toNatClampNeg ≤ hln σ a0 ∧ dp.toNatClampNeg + n.toNatClampNeg ≤ hln σ a
def cpI (t : Nat) (σ : Hp) (r0 : Option Nat) (sp : Int32) (r : Option Nat) (dp n : Int32) : Option Hp := r0.bind fun a0 => r.bind fun a =>
  if (htg σ a0 = 100 + t ∧ htg σ a = 100 + t ∧ hlo σ ≤ a) ∧ ((0 ≤ sp ∧ 0 ≤ dp ∧ 0 ≤ n) ∧ sp.toNatClampNeg + n.toNatClampNeg ≤ hln σ a0 ∧ dp.toNatClampNeg + n.toNatClampNeg ≤ hln σ a) ∧ (∀ i, i < n.toNatClampNeg → fits (ag.getD t .int) (.int (hI σ a0 (sp.toNatClampNeg + i))) = true) then some (rI σ a (va_cpy (hI σ a0) (hI σ a) sp.toNatClampNeg dp.toNatClampNeg n.toNatClampNeg)) else none
def cpL (σ : Hp) (r0 : Option Nat) (sp : Int32) (r : Option Nat) (dp n : Int32) : Option Hp := r0.bind fun a0 => r.bind fun a =>
  if (htg σ a0 = 100 + 1 ∧ htg σ a = 100 + 1 ∧ hlo σ ≤ a) ∧ ((0 ≤ sp ∧ 0 ≤ dp ∧ 0 ≤ n) ∧ sp.toNatClampNeg + n.toNatClampNeg ≤ hln σ a0 ∧ dp.toNatClampNeg + n.toNatClampNeg ≤ hln σ a) then some (rL σ a (va_cpy (hL σ a0) (hL σ a) sp.toNatClampNeg dp.toNatClampNeg n.toNatClampNeg)) else none
def cpR (t t1 : Nat) (σ : Hp) (r0 : Option Nat) (sp : Int32) (r : Option Nat) (dp n : Int32) : Option Hp := r0.bind fun a0 => r.bind fun a =>
  if (htg σ a0 = 100 + t ∧ htg σ a = 100 + t1 ∧ hlo σ ≤ a) ∧ ((0 ≤ sp ∧ 0 ≤ dp ∧ 0 ≤ n) ∧ sp.toNatClampNeg + n.toNatClampNeg ≤ hln σ a0 ∧ dp.toNatClampNeg + n.toNatClampNeg ≤ hln σ a) ∧ (∀ i, i < n.toNatClampNeg → (hR σ a0 (sp.toNatClampNeg + i)).all (fun v => okA t1 (htg σ v)) = true) then some (rR σ a (va_cpy (hR σ a0) (hR σ a) sp.toNatClampNeg dp.toNatClampNeg n.toNatClampNeg)) else none
section JY
variable {γ : GP} {μ : MP} {φ : FP} {σ : Hp} {pc : Nat} {l : LVs} {st : List Value} {τ : Hp} {r0 r : Option Nat} {sp dp i9 : Int32} {idx k : Nat}
theorem J_cpI (t : Nat) (ht1 : t ≠ 1) (ht5 : t < 5) (hrk : refKind (ag.getD t .int) = false) (hsame : (ag.getD t .int != ag.getD t .int) = false) (hl : Cond.methodLink μ.2.1 idx arraycopyName ∈ lw_all) (hd : 1 ≤ μ.2.2.2.2.1) (hcs : cs st k) (hk : k ≤ 8) (n : Nat) (d : decode μ.1 pc = .ok (.invokestatic idx, 3)) (e : pc + 3 = n) (h : cpI t σ r0 sp r dp i9 = some τ) (k9 : J γ μ φ τ n l st) : J γ μ φ σ pc l (.int i9 :: .int dp :: va_rf r :: .int sp :: va_rf r0 :: st) := by
  subst e
  obtain ⟨a0, rfl, g7⟩ := some_of_bind h
  obtain ⟨a, rfl, g8⟩ := some_of_bind g7
  clear h g7
  obtain ⟨⟨⟨t0, t1, hla⟩, ⟨⟨h1, h2, h3⟩, h4, h5⟩, hfit⟩, h⟩ := ite_some g8
  refine J.wr (τ := τ) (by rw [← h]; rfl) (fun p e R s m args below meth c Q K H locs cells slots ls hr9 hl9 w => ?_) k9
  have c0 := hr9.2.2.1 a0 (by omega)
  have c1 := hr9.2.2.1 a (by omega)
  rw [cel_a t0, elts_I ht1 ht5] at c0
  rw [cel_a t1, elts_I ht1 ht5] at c1
  have hk9 := (K.k.2 t _ (tyl_at _ (by omega))).1
  have hcat : (st.map fun v => v.category).sum ≤ k := hcs
  refine w_copy (fun z => Value.int z) (f := hI σ a0) (g := hI σ a) K.x K.b (by rw [K.ml]; exact hl9.1.1.symm) K.o (K.wd hl) (K.wd q732) (K.wd q731) (K.wd q149) c0 c1 hk9 hk9 (by dsimp only; rw [hrk, hsame]; rfl) (Int32.not_lt.mpr h1) (Int32.not_lt.mpr h2) (Int32.not_lt.mpr h3) h4 h5 (fun T k1 cm1 _ _ _ vm' _ i hi => ⟨hfit i hi, trivial⟩) (by rw [K.rm]; exact hd) (by rw [K.rm]; show _ ≤ 64 * μ.2.2.2.2.1; omega) d (fun H1 L e1 z oq hL => ?_)
  refine w H1 _ (hr9.set (by rw [← h]; rfl) (fun b _ => by rw [← h]; rfl) (fun b hb => by rw [← h]; exact cel_rI hb) hla (fun _ => ?_) z oq hL)
  subst h
  have t2 : htg (rI σ a (va_cpy (hI σ a0) (hI σ a) sp.toNatClampNeg dp.toNatClampNeg i9.toNatClampNeg)) a = 100 + t := t1
  have e3 : hI (rI σ a (va_cpy (hI σ a0) (hI σ a) sp.toNatClampNeg dp.toNatClampNeg i9.toNatClampNeg)) a = va_cpy (hI σ a0) (hI σ a) sp.toNatClampNeg dp.toNatClampNeg i9.toNatClampNeg := if_pos rfl
  rw [cel_a t2, elts_I ht1 ht5, e3]
  exact e1
theorem J_cpL (hl : Cond.methodLink μ.2.1 idx arraycopyName ∈ lw_all) (hd : 1 ≤ μ.2.2.2.2.1) (hcs : cs st k) (hk : k ≤ 8) (n : Nat) (d : decode μ.1 pc = .ok (.invokestatic idx, 3)) (e : pc + 3 = n) (h : cpL σ r0 sp r dp i9 = some τ) (k9 : J γ μ φ τ n l st) : J γ μ φ σ pc l (.int i9 :: .int dp :: va_rf r :: .int sp :: va_rf r0 :: st) := by
  subst e
  obtain ⟨a0, rfl, g7⟩ := some_of_bind h
  obtain ⟨a, rfl, g8⟩ := some_of_bind g7
  clear h g7
  obtain ⟨⟨⟨t0, t1, hla⟩, ⟨⟨h1, h2, h3⟩, h4, h5⟩⟩, h⟩ := ite_some g8
  refine J.wr (τ := τ) (by rw [← h]; rfl) (fun p e R s m args below meth c Q K H locs cells slots ls hr9 hl9 w => ?_) k9
  have c0 := hr9.2.2.1 a0 (by omega)
  have c1 := hr9.2.2.1 a (by omega)
  rw [cel_a t0] at c0
  rw [cel_a t1] at c1
  have hk9 := (K.k.2 1 _ (tyl_at _ (by omega))).1
  have hcat : (st.map fun v => v.category).sum ≤ k := hcs
  refine w_copy (fun z => Value.long z) (f := hL σ a0) (g := hL σ a) K.x K.b (by rw [K.ml]; exact hl9.1.1.symm) K.o (K.wd hl) (K.wd q732) (K.wd q731) (K.wd q149) c0 c1 hk9 hk9 rfl (Int32.not_lt.mpr h1) (Int32.not_lt.mpr h2) (Int32.not_lt.mpr h3) h4 h5 (fun T k1 cm1 _ _ _ vm' _ i hi => ⟨rfl, trivial⟩) (by rw [K.rm]; exact hd) (by rw [K.rm]; show _ ≤ 64 * μ.2.2.2.2.1; omega) d (fun H1 L e1 z oq hL9 => ?_)
  refine w H1 _ (hr9.set (by rw [← h]; rfl) (fun b _ => by rw [← h]; rfl) (fun b hb => by rw [← h]; exact cel_rL hb) hla (fun _ => ?_) z oq hL9)
  subst h
  have t2 : htg (rL σ a (va_cpy (hL σ a0) (hL σ a) sp.toNatClampNeg dp.toNatClampNeg i9.toNatClampNeg)) a = 100 + 1 := t1
  have e3 : hL (rL σ a (va_cpy (hL σ a0) (hL σ a) sp.toNatClampNeg dp.toNatClampNeg i9.toNatClampNeg)) a = va_cpy (hL σ a0) (hL σ a) sp.toNatClampNeg dp.toNatClampNeg i9.toNatClampNeg := if_pos rfl
  rw [cel_a t2, elts_L, e3]
  exact e1
theorem ag_obj {t : Nat} (ht7 : 7 ≤ t) (ht : t < 16) : ∃ E, ag.getD t .int = .object E := by
  match t, ht7, ht with
  | 7, _, _ => exact ⟨_, rfl⟩
  | 8, _, _ => exact ⟨_, rfl⟩
  | 9, _, _ => exact ⟨_, rfl⟩
  | 10, _, _ => exact ⟨_, rfl⟩
  | 11, _, _ => exact ⟨_, rfl⟩
  | 12, _, _ => exact ⟨_, rfl⟩
  | 13, _, _ => exact ⟨_, rfl⟩
  | 14, _, _ => exact ⟨_, rfl⟩
  | 15, _, _ => exact ⟨_, rfl⟩
  | t + 16, _, ht => exact absurd ht (by omega)
theorem J_cpR (t t1 : Nat) (ht7 : 7 ≤ t) (ht : t < 16) (ht71 : 7 ≤ t1) (ht1 : t1 < 16) (hl : Cond.methodLink μ.2.1 idx arraycopyName ∈ lw_all) (hd : 1 ≤ μ.2.2.2.2.1) (hcs : cs st k) (hk : k ≤ 8) (n : Nat) (d : decode μ.1 pc = .ok (.invokestatic idx, 3)) (e : pc + 3 = n) (h : cpR t t1 σ r0 sp r dp i9 = some τ) (k9 : J γ μ φ τ n l st) : J γ μ φ σ pc l (.int i9 :: .int dp :: va_rf r :: .int sp :: va_rf r0 :: st) := by
  subst e
  obtain ⟨a0, rfl, g7⟩ := some_of_bind h
  obtain ⟨a, rfl, g8⟩ := some_of_bind g7
  clear h g7
  obtain ⟨⟨⟨g0, g1, hla⟩, ⟨⟨h1, h2, h3⟩, h4, h5⟩, hall⟩, h⟩ := ite_some g8
  obtain ⟨E0, hE0⟩ := ag_obj ht7 ht
  obtain ⟨E1, hE1⟩ := ag_obj ht71 ht1
  refine J.wr (τ := τ) (by rw [← h]; rfl) (fun p e R s m args below meth c Q K H locs cells slots ls hr9 hl9 w => ?_) k9
  have c0 := hr9.2.2.1 a0 (by omega)
  have c1 := hr9.2.2.1 a (by omega)
  rw [cel_a g0, elts_R (by omega)] at c0
  rw [cel_a g1, elts_R (by omega)] at c1
  have hka := K.k.2 t _ (tyl_at _ ht)
  have hkb := K.k.2 t1 _ (tyl_at _ ht1)
  dsimp only at hka hkb
  rw [hE0] at hka
  rw [hE1] at hkb
  have hcat : (st.map fun v => v.category).sum ≤ k := hcs
  refine w_copy (fun z => va_rf z) (f := hR σ a0) (g := hR σ a) K.x K.b (by rw [K.ml]; exact hl9.1.1.symm) K.o (K.wd hl) (K.wd q732) (K.wd q731) (K.wd q149) c0 c1 hka.1 hkb.1 rfl (Int32.not_lt.mpr h1) (Int32.not_lt.mpr h2) (Int32.not_lt.mpr h3) h4 h5 (fun T k1 cm1 hT hk1 hkk1 vm' hal i hi => ?_) (by rw [K.rm]; exact hd) (by rw [K.rm]; show _ ≤ 64 * μ.2.2.2.2.1; omega) d (fun H1 L e1 z oq hL9 => ?_)
  · have ha := hall i hi
    cases hy : hR σ a0 (sp.toNatClampNeg + i) with
    | none => exact ⟨rfl, trivial⟩
    | some v =>
      rw [hy] at ha
      have hok : okA t1 (htg σ v) = true := ha
      obtain ⟨hv100, E', q, hE', hq, hcast⟩ := okA_spec hok
      have hEE : E1 = E' := by rw [hE1] at hE'; cases hE'; rfl
      subst hEE
      have hatv := hr9.2.2.1 v (by omega)
      rw [cel_o hv100] at hatv
      obtain ⟨r', hr', cellV, f1, f2, f3, -⟩ := hatv
      obtain ⟨kA, comp, r1, r2, r3, -⟩ := hkb.2
      cases hk1.symm.trans r1
      cases hkk1.symm.trans r2
      have hcls := (K.k.1 _ q hq).2
      obtain ⟨kC, hkC, -⟩ := hcls.2
      obtain ⟨kE, hkE, -⟩ := Vm.findClass_spec r3
      obtain ⟨kC', hkC', -⟩ := hal.2.2 _ _ hkC
      obtain ⟨kE', hkE', -⟩ := hal.2.2 _ _ hkE
      have hasg : s.vm.assignable cellV.cls cm1 = true := by
        rw [f2]
        rcases hcast with hc | hc
        · have : cm1 = (gD γ).1 (htg σ v) := by
            have h1 := hcls.1
            rw [hc] at h1
            exact Option.some.inj (r3.symm.trans h1)
          rw [this]
          exact va_assign hcls
        · have hc2 : (Cond.castable q.1 E1).before args s = true := va_Nw.use rfl (va_Nw.warmC K.w (va_Nw.of rfl (K.1.1 _ hc)))
          obtain ⟨c3, c4, hc3, hc4, hasg⟩ := Cond.castable_spec hc2
          cases Option.some.inj (hc3.symm.trans hcls.1)
          cases Option.some.inj (hc4.symm.trans r3)
          exact hasg
      refine ⟨rfl, cellV, (show T.heap[v]? = some cellV by rw [hT]; exact f1), (fun q h => by rw [f3] at h; cases h), ⟨kC', by rw [f2]; exact hkC'⟩, ⟨kE', hkE'⟩, ?_⟩
      show vm'.assignable _ _ = true
      rw [hal.assignable]
      exact hasg
  · refine w H1 _ (hr9.set (by rw [← h]; rfl) (fun b _ => by rw [← h]; rfl) (fun b hb => by rw [← h]; exact cel_rR hb) hla (fun _ => ?_) z oq hL9)
    subst h
    have t2 : htg (rR σ a (va_cpy (hR σ a0) (hR σ a) sp.toNatClampNeg dp.toNatClampNeg i9.toNatClampNeg)) a = 100 + t1 := g1
    have e3 : hR (rR σ a (va_cpy (hR σ a0) (hR σ a) sp.toNatClampNeg dp.toNatClampNeg i9.toNatClampNeg)) a = va_cpy (hR σ a0) (hR σ a) sp.toNatClampNeg dp.toNatClampNeg i9.toNatClampNeg := if_pos rfl
    rw [cel_a t2, elts_R (by omega), e3]
    exact e1
theorem J_tsC {dflt lo hi : Int} {offs : Array Int} {len : Nat} {x v : Int32} {off : Int} (hx : x = v) (t : Nat) (d : decode μ.1 pc = .ok (.tableswitch dflt lo hi offs, len)) (h1 : ¬ v.toInt < lo) (h2 : ¬ hi < v.toInt) (ho : offs[(v.toInt - lo).toNat]? = some off) (ht : (pc : Int) + off = (t : Int)) (k : J γ μ φ σ t l st) : J γ μ φ σ pc l (.int x :: st) := by
  subst hx
  exact J_tsIn t d h1 h2 ho ht k
end JY
