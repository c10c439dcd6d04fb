set_option maxRecDepth 100000
/-! ROWS: arrays, new cells, ends -/
theorem inb {i : Int32} {n : Nat} (h : 0 ≤ i ∧ i.toNatClampNeg < n) : vp_in i n := by
  intro q
  rcases q with q | q
  · exact absurd q (Int32.not_lt.mpr h.1)
  · omega
def aI (t : Nat) (σ : Hp) (r : Option Nat) (i : Int32) : Option Int32 := r.bind fun a => if htg σ a = 100 + t ∧ (0 ≤ i ∧ i.toNatClampNeg < hln σ a) then some (hI σ a i.toNatClampNeg) else none
def aL (σ : Hp) (r : Option Nat) (i : Int32) : Option Int64 := r.bind fun a => if htg σ a = 100 + 1 ∧ (0 ≤ i ∧ i.toNatClampNeg < hln σ a) then some (hL σ a i.toNatClampNeg) else none
def aR (t : Nat) (σ : Hp) (r : Option Nat) (i : Int32) : Option (Option Nat) := r.bind fun a => if htg σ a = 100 + t ∧ (0 ≤ i ∧ i.toNatClampNeg < hln σ a) then some (hR σ a i.toNatClampNeg) else none
def aN (σ : Hp) (r : Option Nat) : Option Int32 := r.bind fun a => if 100 ≤ htg σ a ∧ htg σ a < 116 then some (Int32.ofNat (hln σ a)) else none
/-- stores: x as the array keeps it -/
def sI (t : Nat) (σ : Hp) (r : Option Nat) (i x : Int32) : Option Hp := r.bind fun a => if htg σ a = 100 + t ∧ (0 ≤ i ∧ i.toNatClampNeg < hln σ a) ∧ hlo σ ≤ a then some (wI σ a i.toNatClampNeg (vp_nar (ag.getD t .int) x)) else none
def sL (σ : Hp) (r : Option Nat) (i : Int32) (x : Int64) : Option Hp := r.bind fun a => if htg σ a = 100 + 1 ∧ (0 ≤ i ∧ i.toNatClampNeg < hln σ a) ∧ hlo σ ≤ a then some (wL σ a i.toNatClampNeg x) else none
/-- a reference's class goes into an array type -/
def okA (t c : Nat) : Bool := match t with
  | 7 => c == 3
  | 8 => c == 2
  | 9 => c == 1
  | 10 => c == 17
  | 11 => c == 19 || c == 20 || c == 21
  | 12 => c == 24
  | 13 => c == 22
  | 14 => c == 34
  | 15 => c == 6
  | _ => false
def sR (t : Nat) (σ : Hp) (r : Option Nat) (i : Int32) (x : Option Nat) : Option Hp := r.bind fun a => if htg σ a = 100 + t ∧ (0 ≤ i ∧ i.toNatClampNeg < hln σ a) ∧ hlo σ ≤ a ∧ (x.all (fun v => okA t (htg σ v))) = true then some (wR σ a i.toNatClampNeg x) else none
def nA (t : Nat) (σ : Hp) (n : Int32) : Option Hp := if 0 ≤ n ∧ n.toNatClampNeg ≤ 100000 then some (wN σ (100 + t) n.toNatClampNeg n.toNatClampNeg) else none
section JA
variable {γ : GP} {μ : MP} {φ : FP} {σ : Hp} {pc : Nat} {l : LVs} {st : List Value}
theorem elts_I {t : Nat} (h : t ≠ 1) (h5 : t < 5) (σ : Hp) (a : Nat) : elts t σ a = .inl (hI σ a) := by unfold elts; rw [if_neg h, if_pos h5]
theorem elts_R {t : Nat} (h5 : 5 ≤ t) (σ : Hp) (a : Nat) : elts t σ a = .inr (.inr (.inr (.inr (hR σ a)))) := by unfold elts; rw [if_neg (by omega), if_neg (by omega)]
theorem J_aId {ty : FieldType} {ins : Instr} (t : Nat) (ht1 : t ≠ 1) (ht5 : t < 5) (hty : ag.getD t .int = ty)
    (row : ∀ (p : Program) (l : Launch) (e : Env) (R : Room) (s : State) (m : MethodId) (args : Array Value) (below : List Frame) (meth : Method) (c : Code) (H : Heap) (locs : List Loc) (cells slots : Nat) (Q : State → Prop) (cc : ByteArray) (pc : Nat) (ls : Array Slot) (rest : List Value) (D : va_G) (cl : List vw_C) (a : Nat) (tys : List (ClassId × FieldType)) (ws : va_W),
      p.tables.exec = Jvm.exec → c.code = cc → va_K D cl tys s → va_P D cl ws H → ∀ (q0 t0 : Nat) {cA : ClassId} {n : Nat} {f : Nat → Int32}, ws[q0]? = some (a, .inl (cA, n, .inl f)) → tys[t0]? = some (cA, ty) → ∀ {i : Int32}, vp_in i n → decode cc pc = .ok (ins, 1) → W p l e R s m args below meth c H locs cells slots Q (F0 m (pc + 1) ls (.int (f i.toNatClampNeg) :: rest)) → W p l e R s m args below meth c H locs cells slots Q (F0 m pc ls (.int i :: .ref a :: rest)))
    {r : Option Nat} {i v : Int32} (n : Nat) (d : decode μ.1 pc = .ok (ins, 1)) (e : pc + 1 = n) (h : aI t σ r i = some v) (k9 : J γ μ φ σ n l (.int v :: st)) : J γ μ φ σ pc l (.int i :: va_rf r :: st) := by
  subst e
  obtain ⟨a, rfl, h⟩ := some_of_bind h
  obtain ⟨⟨htg1, hin⟩, rfl⟩ := ite_some h
  refine J.st (fun p e R s m args below meth c Q K H locs cells slots ls hr9 hl w => ?_) k9
  have hat := hr9.2.2.1 a (by omega)
  rw [cel_a htg1, elts_I ht1 ht5] at hat
  exact row p (gl γ) e R s m args below meth c H locs cells slots Q μ.1 pc ls st (gD γ) cg a (tyl (gA γ)) _ K.x K.b K.k (va_P1 hat) 0 t rfl (by rw [tyl_at _ (by omega), hty]) (inb hin) d w
theorem J_iald {r : Option Nat} {i v : Int32} (n : Nat) (d : decode μ.1 pc = .ok (.iaload, 1)) (e : pc + 1 = n) (h : aI 0 σ r i = some v) (k9 : J γ μ φ σ n l (.int v :: st)) : J γ μ φ σ pc l (.int i :: va_rf r :: st) :=
  J_aId 0 (by decide) (by decide) rfl (fun _ _ _ _ _ _ _ _ _ _ _ _ _ _ _ _ _ _ _ _ _ _ _ _ hx hb hK hP q0 t0 _ _ _ h1 h2 _ h3 hd w => va_iald hx hb hK hP q0 t0 h1 h2 h3 hd w) n d e h k9
theorem J_bald {r : Option Nat} {i v : Int32} (n : Nat) (d : decode μ.1 pc = .ok (.baload, 1)) (e : pc + 1 = n) (h : aI 2 σ r i = some v) (k9 : J γ μ φ σ n l (.int v :: st)) : J γ μ φ σ pc l (.int i :: va_rf r :: st) :=
  J_aId 2 (by decide) (by decide) rfl (fun _ _ _ _ _ _ _ _ _ _ _ _ _ _ _ _ _ _ _ _ _ _ _ _ hx hb hK hP q0 t0 _ _ _ h1 h2 _ h3 hd w => va_bald hx hb hK hP q0 t0 h1 h2 h3 hd w) n d e h k9
theorem J_zald {r : Option Nat} {i v : Int32} (n : Nat) (d : decode μ.1 pc = .ok (.baload, 1)) (e : pc + 1 = n) (h : aI 3 σ r i = some v) (k9 : J γ μ φ σ n l (.int v :: st)) : J γ μ φ σ pc l (.int i :: va_rf r :: st) :=
  J_aId 3 (by decide) (by decide) rfl (fun _ _ _ _ _ _ _ _ _ _ _ _ _ _ _ _ _ _ _ _ _ _ _ _ hx hb hK hP q0 t0 _ _ _ h1 h2 _ h3 hd w => va_zald hx hb hK hP q0 t0 h1 h2 h3 hd w) n d e h k9
theorem J_lald {r : Option Nat} {i : Int32} {v : Int64} (n : Nat) (d : decode μ.1 pc = .ok (.laload, 1)) (e : pc + 1 = n) (h : aL σ r i = some v) (k9 : J γ μ φ σ n l (.long v :: st)) : J γ μ φ σ pc l (.int i :: va_rf r :: st) := by
  subst e
  obtain ⟨a, rfl, h⟩ := some_of_bind h
  obtain ⟨⟨htg1, hin⟩, rfl⟩ := ite_some h
  refine J.st (fun p e R s m args below meth c Q K H locs cells slots ls hr9 hl w => ?_) k9
  have hat := hr9.2.2.1 a (by omega)
  rw [cel_a htg1] at hat
  exact va_lald K.x K.b K.k (va_P1 hat) 0 1 rfl (tyl_at _ (by decide)) (inb hin) d w
theorem J_aald {r v : Option Nat} {i : Int32} (t : Nat) (ht5 : 5 ≤ t) (ht : t < 16) (hty : (ag.getD t .int).isReference = true) (n : Nat) (d : decode μ.1 pc = .ok (.aaload, 1)) (e : pc + 1 = n) (h : aR t σ r i = some v) (k9 : J γ μ φ σ n l (va_rf v :: st)) : J γ μ φ σ pc l (.int i :: va_rf r :: st) := by
  subst e
  obtain ⟨a, rfl, h⟩ := some_of_bind h
  obtain ⟨⟨htg1, hin⟩, rfl⟩ := ite_some h
  refine J.st (fun p e R s m args below meth c Q K H locs cells slots ls hr9 hl w => ?_) k9
  have hat := hr9.2.2.1 a (by omega)
  rw [cel_a htg1, elts_R ht5] at hat
  have hk := (K.k.2 t _ (tyl_at _ ht)).1 (hln σ a) (fun j => va_rf (hR σ a j))
  refine W.aald (v := va_rf (hR σ a i.toNatClampNeg)) K.x K.b hat hk hty (fun q => by cases q) ?_ ?_ rfl rfl d w
  · show ¬ (i < 0 ∨ (arrV _ _ _).slots.size ≤ _)
    rw [arrV_size]
    exact inb hin
  · show (arrV _ _ _).slots[_]? = _
    rw [arrV_read _ _ hin.2]
theorem J_alen {r : Option Nat} {v : Int32} (n : Nat) (d : decode μ.1 pc = .ok (.arraylength, 1)) (e : pc + 1 = n) (h : aN σ r = some v) (k9 : J γ μ φ σ n l (.int v :: st)) : J γ μ φ σ pc l (va_rf r :: st) := by
  subst e
  obtain ⟨a, rfl, h⟩ := some_of_bind h
  obtain ⟨⟨h1, h2⟩, rfl⟩ := ite_some h
  refine J.st (fun p e R s m args below meth c Q K H locs cells slots ls hr9 hl w => ?_) k9
  have hat := hr9.2.2.1 a (by omega)
  rw [cel_a (t := htg σ a - 100) (by omega)] at hat
  exact va_alen K.x K.b K.k (va_P1 hat) 0 (htg σ a - 100) rfl (tyl_at _ (by omega)) rfl d w
end JA
