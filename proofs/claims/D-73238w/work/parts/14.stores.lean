set_option maxRecDepth 100000
/-! ROWS: stores into arrays, new cells, ends -/
theorem nar_I {ty : FieldType} (h : isI ty = true) (x : Int32) : narrow ty (.int x) = .int (vp_nar ty x) := by cases ty <;> first | rfl | exact nomatch h
theorem elts_L (σ : Hp) (a : Nat) : elts 1 σ a = .inr (.inl (hL σ a)) := rfl
section JS
variable {γ : GP} {μ : MP} {φ : FP} {σ : Hp} {pc : Nat} {l : LVs} {st : List Value}
/-- an int array's cell behind a store -/
theorem va_atI {τ : Hp} {a t j : Nat} {x : Int32} {H1 : Heap} (ht1 : t ≠ 1) (ht5 : t < 5) (htg1 : htg σ a = 100 + t) (h : τ = wI σ a j x) (e : H1[a]? = some ((arrV (gA γ t) (hln σ a) (fun q => .int (hI σ a q))).setSlot j (.int x))) : va_at (gD γ) cg (a, cel (gA γ) τ a) H1 := by
  subst h
  have h2 : htg (wI σ a j x) a = 100 + t := htg1
  rw [cel_a h2, elts_I ht1 ht5]
  show H1[a]? = some (vp_cell (gA γ t) (hln σ a, .inl (hI (wI σ a j x) a)))
  rw [vp_cell_i, e, arrV_store]
  congr 2
  funext q
  by_cases hq : q = j
  · subst hq
    have : hI (wI σ a q x) a q = x := if_pos ⟨rfl, rfl⟩
    simp [updV, this]
  · have : hI (wI σ a j x) a q = hI σ a q := if_neg (fun z => hq z.2)
    simp [updV, hq, this]
theorem va_atL {τ : Hp} {a j : Nat} {x : Int64} {H1 : Heap} (htg1 : htg σ a = 100 + 1) (h : τ = wL σ a j x) (e : H1[a]? = some ((arrV (gA γ 1) (hln σ a) (fun q => .long (hL σ a q))).setSlot j (.long x))) : va_at (gD γ) cg (a, cel (gA γ) τ a) H1 := by
  subst h
  have h2 : htg (wL σ a j x) a = 100 + 1 := htg1
  rw [cel_a h2, elts_L]
  show H1[a]? = some (vp_cell (gA γ 1) (hln σ a, .inr (.inl (hL (wL σ a j x) a))))
  rw [vp_cell_l, e, arrV_store]
  congr 2
  funext q
  by_cases hq : q = j
  · subst hq
    have : hL (wL σ a q x) a q = x := if_pos ⟨rfl, rfl⟩
    simp [updV, this]
  · have : hL (wL σ a j x) a q = hL σ a q := if_neg (fun z => hq z.2)
    simp [updV, hq, this]
theorem va_atR {τ : Hp} {a t j : Nat} {x : Option Nat} {H1 : Heap} (ht5 : 5 ≤ t) (htg1 : htg σ a = 100 + t) (h : τ = wR σ a j x) (e : H1[a]? = some ((arrV (gA γ t) (hln σ a) (fun q => va_rf (hR σ a q))).setSlot j (va_rf x))) : va_at (gD γ) cg (a, cel (gA γ) τ a) H1 := by
  subst h
  have h2 : htg (wR σ a j x) a = 100 + t := htg1
  rw [cel_a h2, elts_R ht5]
  show H1[a]? = some (vp_cell (gA γ t) (hln σ a, .inr (.inr (.inr (.inr (hR (wR σ a j x) a))))))
  rw [vp_cell_q, e, arrV_store]
  congr 2
  funext q
  by_cases hq : q = j
  · subst hq
    have : hR (wR σ a q x) a q = x := if_pos ⟨rfl, rfl⟩
    simp [updV, this]
  · have : hR (wR σ a j x) a q = hR σ a q := if_neg (fun z => hq z.2)
    simp [updV, hq, this]
theorem J_sId {ty : FieldType} {ins : Instr} (t : Nat) (ht1 : t ≠ 1) (ht5 : t < 5) (hty : ag.getD t .int = ty) (hI9 : isI ty = true)
    (row : ∀ (p : Program) (l : Launch) (e : Env) (R : Room) (s : State) (m : MethodId) (args : Array Value) (below : List Frame) (meth : Method) (c : Code) (H : Heap) (locs : List Loc) (cells slots : Nat) (Q : State → Prop) (cc : ByteArray), p.tables.exec = Jvm.exec → c.code = cc → ∀ {a : Addr} {cell : Cell} {j x : Int32}, H[a]? = some cell → s.isArrayOf cell ty → cell.vm ≠ .unknown → ¬ (j < 0 ∨ cell.slots.size ≤ j.toNatClampNeg) → ∀ {g : JFrame}, g.method = m → ∀ {rest : List Value}, g.stack = .int x :: .int j :: .ref a :: rest → decode cc g.pc = .ok (ins, 1) →
      (∀ H' : Heap, H'[a]? = some (cell.setSlot j.toNatClampNeg (narrow ty (.int x))) → H'.size = H.size → (∀ q, q ≠ a → H'[q]? = H[q]?) → W p l e R s m args below meth c H' (locs ++ [⟨a, j.toNatClampNeg⟩]) cells slots Q { g with pc := g.pc + 1, stack := rest }) → W p l e R s m args below meth c H locs cells slots Q g)
    {τ : Hp} {r : Option Nat} {i x : Int32} (n : Nat) (d : decode μ.1 pc = .ok (ins, 1)) (e : pc + 1 = n) (h : sI t σ r i x = some τ) (k9 : J γ μ φ τ n l st) : J γ μ φ σ pc l (.int x :: .int i :: va_rf r :: st) := by
  subst e
  obtain ⟨a, rfl, h⟩ := some_of_bind h
  obtain ⟨⟨htg1, hin, hla⟩, h⟩ := ite_some h
  rw [hty] at h
  refine J.wr (τ := τ) (by rw [← h]; rfl) (fun p e R s m args below meth c Q K H locs cells slots ls hr9 hl w => ?_) k9
  have hat := hr9.2.2.1 a (by omega)
  rw [cel_a htg1, elts_I ht1 ht5] at hat
  have hk := (K.k.2 t _ (tyl_at _ (by omega))).1 (hln σ a) (fun j => .int (hI σ a j))
  dsimp only at hk
  rw [hty] at hk
  refine row p (gl γ) e R s m args below meth c H locs cells slots Q μ.1 K.x K.b hat hk (fun q => by cases q) ?_ rfl rfl d (fun H1 e1 z oq => ?_)
  · show ¬ (i < 0 ∨ (arrV _ _ _).slots.size ≤ _)
    rw [arrV_size]
    exact inb hin
  · rw [nar_I hI9] at e1
    exact w H1 _ (hr9.set (by rw [← h]; rfl) (fun b _ => by rw [← h]; rfl) (fun b hb => by rw [← h]; exact cel_wI hb) hla (fun _ => va_atI ht1 ht5 htg1 h.symm e1) z oq (fun y hy => by rw [List.mem_singleton.mp hy]))
theorem J_iast {τ : Hp} {r : Option Nat} {i x : Int32} (n : Nat) (d : decode μ.1 pc = .ok (.iastore, 1)) (e : pc + 1 = n) (h : sI 0 σ r i x = some τ) (k9 : J γ μ φ τ n l st) : J γ μ φ σ pc l (.int x :: .int i :: va_rf r :: st) :=
  J_sId 0 (by decide) (by decide) rfl rfl (fun _ _ _ _ _ _ _ _ _ _ _ _ _ _ _ _ hx hb _ _ _ _ h1 h2 h3 h4 _ hg _ hs hd w => W.iast hx hb h1 h2 h3 h4 hg hs hd w) n d e h k9
theorem J_bast {τ : Hp} {r : Option Nat} {i x : Int32} (n : Nat) (d : decode μ.1 pc = .ok (.bastore, 1)) (e : pc + 1 = n) (h : sI 2 σ r i x = some τ) (k9 : J γ μ φ τ n l st) : J γ μ φ σ pc l (.int x :: .int i :: va_rf r :: st) :=
  J_sId 2 (by decide) (by decide) rfl rfl (fun _ _ _ _ _ _ _ _ _ _ _ _ _ _ _ _ hx hb _ _ _ _ h1 h2 h3 h4 _ hg _ hs hd w => W.bast hx hb h1 h2 h3 h4 hg hs hd w) n d e h k9
theorem J_zast {τ : Hp} {r : Option Nat} {i x : Int32} (n : Nat) (d : decode μ.1 pc = .ok (.bastore, 1)) (e : pc + 1 = n) (h : sI 3 σ r i x = some τ) (k9 : J γ μ φ τ n l st) : J γ μ φ σ pc l (.int x :: .int i :: va_rf r :: st) :=
  J_sId 3 (by decide) (by decide) rfl rfl (fun _ _ _ _ _ _ _ _ _ _ _ _ _ _ _ _ hx hb _ _ _ _ h1 h2 h3 h4 _ hg _ hs hd w => W.zast hx hb h1 h2 h3 h4 hg hs hd w) n d e h k9
theorem J_last {τ : Hp} {r : Option Nat} {i : Int32} {x : Int64} (n : Nat) (d : decode μ.1 pc = .ok (.lastore, 1)) (e : pc + 1 = n) (h : sL σ r i x = some τ) (k9 : J γ μ φ τ n l st) : J γ μ φ σ pc l (.long x :: .int i :: va_rf r :: st) := by
  subst e
  obtain ⟨a, rfl, h⟩ := some_of_bind h
  obtain ⟨⟨htg1, hin, hla⟩, h⟩ := ite_some h
  refine J.wr (τ := τ) (by rw [← h]; rfl) (fun p e R s m args below meth c Q K H locs cells slots ls hr9 hl w => ?_) k9
  have hat := hr9.2.2.1 a (by omega)
  rw [cel_a htg1] at hat
  have hk := (K.k.2 1 _ (tyl_at _ (by omega))).1 (hln σ a) (fun j => .long (hL σ a j))
  refine W.last K.x K.b hat hk (fun q => by cases q) ?_ rfl rfl d (fun H1 e1 z oq => ?_)
  · show ¬ (i < 0 ∨ (arrV _ _ _).slots.size ≤ _)
    rw [arrV_size]
    exact inb hin
  · exact w H1 _ (hr9.set (by rw [← h]; rfl) (fun b _ => by rw [← h]; rfl) (fun b hb => by rw [← h]; exact cel_wL hb) hla (fun _ => va_atL htg1 h.symm e1) z oq (fun y hy => by rw [List.mem_singleton.mp hy]))
/-- a class goes into an array type -/
theorem okA_spec {t c : Nat} (h : okA t c = true) : c < 100 ∧ ∃ (E : String) (q : vw_C), ag.getD t .int = .object E ∧ cg[c]? = some q ∧ (q.1 = E ∨ Cond.castable q.1 E ∈ lw_tbl) := by
  unfold okA at h
  split at h
  · rw [beq_iff_eq] at h; subst h; exact ⟨by decide, _, _, rfl, rfl, Or.inl rfl⟩
  · rw [beq_iff_eq] at h; subst h; exact ⟨by decide, _, _, rfl, rfl, Or.inl rfl⟩
  · rw [beq_iff_eq] at h; subst h; exact ⟨by decide, _, _, rfl, rfl, Or.inl rfl⟩
  · rw [beq_iff_eq] at h; subst h; exact ⟨by decide, _, _, rfl, rfl, Or.inl rfl⟩
  · simp only [Bool.or_eq_true, beq_iff_eq] at h
    rcases h with (h | h) | h
    · subst h; exact ⟨by decide, _, _, rfl, rfl, Or.inr q3041⟩
    · subst h; exact ⟨by decide, _, _, rfl, rfl, Or.inr q3042⟩
    · subst h; exact ⟨by decide, _, _, rfl, rfl, Or.inr q3043⟩
  · rw [beq_iff_eq] at h; subst h; exact ⟨by decide, _, _, rfl, rfl, Or.inl rfl⟩
  · rw [beq_iff_eq] at h; subst h; exact ⟨by decide, _, _, rfl, rfl, Or.inl rfl⟩
  · rw [beq_iff_eq] at h; subst h; exact ⟨by decide, _, _, rfl, rfl, Or.inl rfl⟩
  · rw [beq_iff_eq] at h; subst h; exact ⟨by decide, _, _, rfl, rfl, Or.inr q3019⟩
  · cases h
theorem J_aast {τ : Hp} {r x : Option Nat} {i : Int32} (t : Nat) (ht5 : 7 ≤ t) (ht : t < 16) (n : Nat) (d : decode μ.1 pc = .ok (.aastore, 1)) (e : pc + 1 = n) (h : sR t σ r i x = some τ) (k9 : J γ μ φ τ n l st) : J γ μ φ σ pc l (va_rf x :: .int i :: va_rf r :: st) := by
  subst e
  obtain ⟨a, rfl, h⟩ := some_of_bind h
  obtain ⟨⟨htg1, hin, hla, hok⟩, h⟩ := ite_some h
  have hE : ∃ E, ag.getD t .int = .object E := by
    match t, ht5, ht with
    | 7, _, _ => exact ⟨_, rfl⟩
    | 8, _, _ => exact ⟨_, rfl⟩
    | 9, _, _ => exact ⟨_, rfl⟩
    | 10, _, _ => exact ⟨_, rfl⟩
    | 11, _, _ => exact ⟨_, rfl⟩
    | 12, _, _ => exact ⟨_, rfl⟩
    | 13, _, _ => exact ⟨_, rfl⟩
    | 14, _, _ => exact ⟨_, rfl⟩
    | 15, _, _ => exact ⟨_, rfl⟩
    | t + 16, _, ht => exact absurd ht (by omega)
  obtain ⟨E, hE⟩ := hE
  refine J.wr (τ := τ) (by rw [← h]; rfl) (fun p e R s m args below meth c Q K H locs cells slots ls hr9 hl w => ?_) k9
  have hat := hr9.2.2.1 a (by omega)
  rw [cel_a htg1, elts_R (by omega)] at hat
  have hk := K.k.2 t _ (tyl_at _ ht)
  dsimp only at hk
  rw [hE] at hk
  have fin : ∀ H1 : Heap, H1[a]? = some ((arrV (gA γ t) (hln σ a) (fun q => va_rf (hR σ a q))).setSlot i.toNatClampNeg (va_rf x)) → H1.size = H.size → (∀ q, q ≠ a → H1[q]? = H[q]?) → W p (gl γ) e R s m args below meth c H1 (locs ++ [⟨a, i.toNatClampNeg⟩]) cells slots Q (F0 m (pc + 1) ls st) := fun H1 e1 z oq =>
    w H1 _ (hr9.set (by rw [← h]; rfl) (fun b _ => by rw [← h]; rfl) (fun b hb => by rw [← h]; exact cel_wR hb) hla (fun _ => va_atR (by omega) htg1 h.symm e1) z oq (fun y hy => by rw [List.mem_singleton.mp hy]))
  cases x with
  | none =>
    refine va_WaastN (C := E) K.x K.b hat (hk.1 (hln σ a) (fun j => va_rf (hR σ a j))) (fun h => by cases h) ?_ rfl rfl d fin
    show ¬ (i < 0 ∨ (arrV _ _ _).slots.size ≤ _)
    rw [arrV_size]
    exact inb hin
  | some v =>
    have hok : okA t (htg σ v) = true := hok
    obtain ⟨hv100, E', q, hE', hq, hcast⟩ := okA_spec hok
    have hEE : E = E' := by rw [hE] at hE'; cases hE'; rfl
    subst hEE
    have hatv := hr9.2.2.1 v (by omega)
    rw [cel_o hv100] at hatv
    obtain ⟨r', hr', cellV, g1, g2, g3, -⟩ := hatv
    obtain ⟨kA, comp, k1, k2, k3, -⟩ := hk.2
    obtain ⟨kE, hkE, -⟩ := Vm.findClass_spec k3
    have hcls := (K.k.1 _ q hq).2
    obtain ⟨kC, hkC, -⟩ := hcls.2
    have hasg : s.vm.assignable cellV.cls comp = true := by
      rw [g2]
      rcases hcast with hc | hc
      · have : comp = (gD γ).1 (htg σ v) := by
          have h1 := hcls.1
          rw [hc] at h1
          exact Option.some.inj (k3.symm.trans h1)
        rw [this]
        exact va_assign hcls
      · have hc2 : (Cond.castable q.1 E).before args s = true := va_Nw.use rfl (va_Nw.warmC K.w (va_Nw.of rfl (K.1.1 _ hc)))
        obtain ⟨c3, c4, hc3, hc4, hasg⟩ := Cond.castable_spec hc2
        cases Option.some.inj (hc3.symm.trans hcls.1)
        cases Option.some.inj (hc4.symm.trans k3)
        exact hasg
    refine W.aast K.x K.b hat (fun q h => by cases h) (fun h => by cases h) k1 k2 rfl hkE ⟨Int32.not_lt.mpr hin.1, ?_⟩ g1 (fun q h => by rw [g3] at h; cases h) (by rw [g2]; exact hkC) hasg rfl rfl d fin
    show _ < (arrV _ _ _).slots.size
    rw [arrV_size]
    exact hin.2
/-- a new cell -/
theorem J.al {t n u pc' : Nat} {st' : List Value} (ht : t < 999)
    (h : ∀ (p : Program) (e : Env) (R : Room) (s : State) (m : MethodId) (args : Array Value) (below : List Frame) (meth : Method) (c : Code) (Q : State → Prop), KOK γ μ φ p R s m meth c → ∀ (H : Heap) (locs : List Loc) (cells slots : Nat) (ls : Array Slot), H.size = hsz σ → cells + 1 ≤ R.cells → slots + u ≤ R.slots →
      (∀ H1 : Heap, H1.size = H.size + 1 → (∀ q, q < H.size → H1[q]? = H[q]?) → va_at (gD γ) cg (hsz σ, cel (gA γ) (wN σ t n u) (hsz σ)) H1 → W p (gl γ) e R s m args below meth c H1 locs (cells + 1) (slots + u) Q (F0 m pc' ls st')) → W p (gl γ) e R s m args below meth c H locs cells slots Q (F0 m pc ls st))
    (k : J γ μ φ (wN σ t n u) pc' l st') : J γ μ φ σ pc l st := by
  have hz : hsz (wN σ t n u) = hsz σ + 1 := rfl
  have hu : hus (wN σ t n u) = hus σ + u := rfl
  have k1 := k.1
  rw [hz, hu] at k1
  refine ⟨⟨by omega, by omega⟩, fun p e R s m args below meth c K H locs cells slots ls hr9 hl => ?_⟩
  obtain ⟨g1, g2, g3, g4, g5, g6, g7⟩ := hr9
  have hrm := K.rm
  have hs0 := K.sz
  refine h p e R s m args below meth c _ K H locs cells slots ls g2 ?_ ?_ (fun H1 z oq hat => ?_)
  · rw [hrm]
    show cells + 1 ≤ hsz φ.2.2 - hsz φ.1
    omega
  · rw [hrm]
    show slots + u ≤ hus φ.2.2 - hus φ.1
    omega
  · refine k.2 p e R s m args below meth c K H1 locs (cells + 1) (slots + u) ls ⟨g1, by rw [hz, z, g2], fun a ha => ?_, ⟨Nat.le_trans g4.1 (by omega), fun q h1 h2 => ?_, g4.2.2⟩, by rw [hz]; omega, by rw [hu]; omega, g7⟩ hl
    · by_cases e9 : a = hsz σ
      · rw [e9]
        exact hat
      · have e1 : htg (wN σ t n u) a = htg σ a := if_neg e9
        rw [e1] at ha
        have hh := g3 a ha
        have hlt := hh.lt
        have e2 : cel (gA γ) (wN σ t n u) a = cel (gA γ) σ a := by
          have e2 : hln (wN σ t n u) a = hln σ a := if_neg e9
          have e3 : hI (wN σ t n u) a = hI σ a := if_neg e9
          have e4 : hL (wN σ t n u) a = hL σ a := if_neg e9
          have e5 : hR (wN σ t n u) a = hR σ a := if_neg e9
          have e6 : ∀ ty k, fv ty (wN σ t n u) a k = fv ty σ a k := by
            intro ty k
            unfold fv
            rw [e3, e4, e5]
          unfold cel flds elts
          simp only [e1, e2, e3, e4, e5, e6]
        rw [e2]
        exact hh.kept (oq a hlt)
    · rw [oq q (Nat.lt_of_lt_of_le h1 g4.1)]
      exact g4.2.1 q h1 h2
theorem tg_wN (σ : Hp) (t n u : Nat) : htg (wN σ t n u) (hsz σ) = t := if_pos rfl
theorem ln_wN (σ : Hp) (t n u : Nat) : hln (wN σ t n u) (hsz σ) = n := if_pos rfl
theorem J_newa {atype : ArrayType} {ty : FieldType} {i : Int32} {τ : Hp} (t : Nat) (ht5 : t < 5) (hty : ag.getD t .int = ty) (hat9 : newarray.typeOf atype = ty) (hb9 : componentBytes ty ≤ 8) (hdv : ∀ σ a k, defaultValue ty = if t = 1 then .long (hL (wN σ (100 + t) a k) (hsz σ) 0) else .int (hI (wN σ (100 + t) a k) (hsz σ) 0)) (hw : Cond.arrayClass ty ∈ lw_all) (hra : ∀ U cA, va_RA U cA ty → U.vm.findClass ("[" ++ ty.toString) = some cA) (n : Nat) (d : decode μ.1 pc = .ok (.newarray atype, 2)) (e : pc + 2 = n) (h : nA t σ i = some τ) (k9 : J γ μ φ τ n l (va_rf (some (hsz σ)) :: st)) : J γ μ φ σ pc l (.int i :: st) := by
  subst e
  obtain ⟨⟨h0, h1⟩, rfl⟩ := ite_some h
  refine J.al (by omega) (fun p e R s m args below meth c Q K H locs cells slots ls hsz9 hc hs w => ?_) k9
  subst hat9
  refine va_newaK K.x K.b (K.wd hw) rfl d rfl (Int32.not_lt.mpr h0) rfl (Nat.le_trans (Nat.mul_le_mul h1 hb9) (by decide)) hc hs hsz9 (fun H1 cA e1 z oq harr hfc => ?_)
  refine w H1 (by omega) (fun q hq => oq q (by omega)) ?_
  have hk := K.k.2 t _ (tyl_at _ (by omega))
  dsimp only at hk
  rw [hty] at hk
  have hcA : cA = gA γ t := Option.some.inj (hfc.symm.trans (hra s _ hk.2))
  subst hcA
  rw [cel_a (tg_wN ..)]
  show H1[_]? = some _
  rw [ln_wN, e1]
  congr 1
  by_cases ht1 : t = 1
  · subst ht1
    rw [elts_L]
    dsimp only
    rw [vp_cell_l]
    congr 1
    funext j
    rw [hdv σ 0 0, if_pos rfl]
    show Value.long (up1 (hL σ) (hsz σ) (fun _ => 0) (hsz σ) 0) = Value.long (up1 (hL σ) (hsz σ) (fun _ => 0) (hsz σ) j)
    unfold up1
    rw [if_pos rfl]
  · rw [elts_I ht1 ht5]
    dsimp only
    rw [vp_cell_i]
    congr 1
    funext j
    rw [hdv σ 0 0, if_neg ht1]
    show Value.int (up1 (hI σ) (hsz σ) (fun _ => 0) (hsz σ) 0) = Value.int (up1 (hI σ) (hsz σ) (fun _ => 0) (hsz σ) j)
    unfold up1
    rw [if_pos rfl]
end JS
