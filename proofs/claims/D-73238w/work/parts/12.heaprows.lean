set_option maxRecDepth 100000
/-! ROWS: fields -/
def isI (ty : FieldType) : Bool := match ty with
  | .int => true
  | .boolean => true
  | .byte => true
  | .char => true
  | .short => true
  | _ => false
def isL (ty : FieldType) : Bool := match ty with
  | .long => true
  | _ => false
def isR (ty : FieldType) : Bool := match ty with
  | .object _ => true
  | .array _ => true
  | _ => false
theorem fv_I {ty : FieldType} (h : isI ty = true) (σ : Hp) (a k : Nat) : fv ty σ a k = .int (hI σ a k) := by cases ty <;> first | rfl | cases h
theorem fv_L {ty : FieldType} (h : isL ty = true) (σ : Hp) (a k : Nat) : fv ty σ a k = .long (hL σ a k) := by cases ty <;> first | rfl | cases h
theorem fv_R {ty : FieldType} (h : isR ty = true) (σ : Hp) (a k : Nat) : fv ty σ a k = va_rf (hR σ a k) := by cases ty <;> first | rfl | cases h
/-- the link of a field -/
def FL (own : String) (idx : Nat) (f : String × String × String × Bool) : Prop :=
  (∃ ref, Cond.fieldLink own idx ref f.2.1 f.2.2.1 ∈ lw_all ∧ (ref = f.1 ∨ Cond.sameField ref f.1 f.2.1 f.2.2.1 ∈ lw_all)) ∨ (∃ host, Cond.fieldLinkNest own idx f.1 f.2.1 f.2.2.1 host ∈ lw_tbl)
def FOK (own : String) (idx : Nat) (cs : List Nat) (k : Nat) (p : FieldType → Bool) : Prop := ∀ c ∈ cs, c < 100 ∧ ∃ (C : String) (T : u_T) (N : Nat), cg[c]? = some (C, T, N) ∧ k < N ∧ FL own idx (T k) ∧ p (cgty c k) = true
/-- .. to write it -/
def POK (own : String) (nm : String) (idx : Nat) (cs : List Nat) (k : Nat) (ty : FieldType) : Prop := ∀ c ∈ cs, c < 100 ∧ ∃ (C : String) (T : u_T) (N : Nat), cg[c]? = some (C, T, N) ∧ k < N ∧ FL own idx (T k) ∧ cgty c k = ty ∧ (∀ j, j < N → j ≠ k → (T j).2.1 ≠ (T k).2.1) ∧
  ((T k).2.2.2 = false ∨ ((T k).2.2.2 = true ∧ nm = "<init>" ∧ (T k).1 = own ∧ ∃ ref, Cond.fieldLink own idx ref (T k).2.1 (T k).2.2.1 ∈ lw_all ∧ (ref = (T k).1 ∨ Cond.sameField ref (T k).1 (T k).2.1 (T k).2.2.1 ∈ lw_all)))
theorem cgN_of {c : Nat} {q : vw_C} (h : cg[c]? = some q) : cgN c = q.2.2 := by unfold cgN; rw [h]; rfl
theorem flds_at {c : Nat} {σ : Hp} {a k : Nat} (h : k < cgN c) : (flds c σ a)[k]? = some (fv (cgty c k) σ a k) := by
  unfold flds
  rw [List.getElem?_map, List.getElem?_range h]
  rfl
theorem flds_len (c : Nat) (σ : Hp) (a : Nat) : (flds c σ a).length = cgN c := by unfold flds; rw [List.length_map, List.length_range]
theorem cel_o {cA : Nat → ClassId} {σ : Hp} {a : Nat} (h : htg σ a < 100) : cel cA σ a = .inr (htg σ a, flds (htg σ a) σ a) := if_pos h
theorem cel_a {cA : Nat → ClassId} {σ : Hp} {a t : Nat} (h : htg σ a = 100 + t) : cel cA σ a = .inl (cA t, hln σ a, elts t σ a) := by
  unfold cel
  rw [if_neg (by omega), show htg σ a - 100 = t by omega]
section JH
variable {γ : GP} {μ : MP} {φ : FP} {σ : Hp} {pc : Nat} {l : LVs} {st : List Value}
theorem J_getv {a idx k : Nat} {cs : List Nat} {p9 : FieldType → Bool} {v : Value} (n : Nat) (d : decode μ.1 pc = .ok (.getfield idx, 3)) (e : pc + 3 = n) (hF : FOK μ.2.1 idx cs k p9) (hc : htg σ a ∈ cs) (hv : p9 (cgty (htg σ a) k) = true → fv (cgty (htg σ a) k) σ a k = v) (k9 : J γ μ φ σ n l (v :: st)) : J γ μ φ σ pc l (va_rf (some a) :: st) := by
  subst e
  obtain ⟨hlt, C, T, N, hcg, hkN, hFL, hp⟩ := hF _ hc
  have hv := hv hp
  refine J.st (fun p e R s m args below meth c Q K H locs cells slots ls hR hl w => ?_) k9
  have hat := hR.2.2.1 a (by omega)
  rw [cel_o hlt] at hat
  have hN : cgN (htg σ a) = N := cgN_of hcg
  have hfk : (flds (htg σ a) σ a)[k]? = some v := by rw [flds_at (by omega), hv]
  rcases hFL with ⟨ref, hl1, hs⟩ | ⟨host, hl1⟩
  · refine va_get K.x K.b (fun w h => K.wd h) (cg_in _ _ hcg) K.o K.k (va_P1 hat) 0 rfl hcg k hkN (K.wd hl1) ?_ hfk d w
    rcases hs with rfl | hs
    · exact fun _ h => h
    · exact fun x h => u_same (K.wd hs (args := args)) x h
  · exact va_getN K.x K.b (fun w h => K.wd h) (cg_in _ _ hcg) K.o K.k (va_P1 hat) 0 rfl hcg k hkN (va_Nw.use rfl (va_Nw.warmF K.w (va_Nw.of rfl (K.1.1 _ hl1)))) (fun _ h => h) hfk d w
/-- what a field holds -/
def gI (σ : Hp) (r : Option Nat) (cs : List Nat) (k : Nat) : Option Int32 := r.bind fun a => if htg σ a ∈ cs then some (hI σ a k) else none
def gL (σ : Hp) (r : Option Nat) (cs : List Nat) (k : Nat) : Option Int64 := r.bind fun a => if htg σ a ∈ cs then some (hL σ a k) else none
def gR (σ : Hp) (r : Option Nat) (cs : List Nat) (k : Nat) : Option (Option Nat) := r.bind fun a => if htg σ a ∈ cs then some (hR σ a k) else none
theorem some_of_bind {α β : Type} {r : Option α} {f : α → Option β} {v : β} (h : r.bind f = some v) : ∃ a, r = some a ∧ f a = some v := by
  cases r with
  | none => cases h
  | some a => exact ⟨a, rfl, h⟩
theorem ite_some {α : Type} {P : Prop} {_ : Decidable P} {x v : α} (h : (if P then some x else none) = some v) : P ∧ x = v := by
  by_cases hp : P
  · rw [if_pos hp] at h
    exact ⟨hp, Option.some.inj h⟩
  · rw [if_neg hp] at h
    cases h
theorem J_gI {r : Option Nat} {idx k : Nat} {cs : List Nat} {v : Int32} (n : Nat) (d : decode μ.1 pc = .ok (.getfield idx, 3)) (e : pc + 3 = n) (hF : FOK μ.2.1 idx cs k isI) (h : gI σ r cs k = some v) (k9 : J γ μ φ σ n l (.int v :: st)) : J γ μ φ σ pc l (va_rf r :: st) := by
  obtain ⟨a, rfl, h⟩ := some_of_bind h
  obtain ⟨hc, rfl⟩ := ite_some h
  exact J_getv n d e hF hc (fun h => fv_I h _ _ _) k9
theorem J_gL {r : Option Nat} {idx k : Nat} {cs : List Nat} {v : Int64} (n : Nat) (d : decode μ.1 pc = .ok (.getfield idx, 3)) (e : pc + 3 = n) (hF : FOK μ.2.1 idx cs k isL) (h : gL σ r cs k = some v) (k9 : J γ μ φ σ n l (.long v :: st)) : J γ μ φ σ pc l (va_rf r :: st) := by
  obtain ⟨a, rfl, h⟩ := some_of_bind h
  obtain ⟨hc, rfl⟩ := ite_some h
  exact J_getv n d e hF hc (fun h => fv_L h _ _ _) k9
theorem J_gR {r v : Option Nat} {idx k : Nat} {cs : List Nat} (n : Nat) (d : decode μ.1 pc = .ok (.getfield idx, 3)) (e : pc + 3 = n) (hF : FOK μ.2.1 idx cs k isR) (h : gR σ r cs k = some v) (k9 : J γ μ φ σ n l (va_rf v :: st)) : J γ μ φ σ pc l (va_rf r :: st) := by
  obtain ⟨a, rfl, h⟩ := some_of_bind h
  obtain ⟨hc, rfl⟩ := ite_some h
  exact J_getv n d e hF hc (fun h => fv_R h _ _ _) k9
/-- one cell of the heap changes, at a -/
theorem Rl.set {s : State} {u0 : Nat} {τ : Hp} {H H1 : Heap} {locs L : List Loc} {cells slots a : Nat} (h : Rl γ s u0 σ H locs cells slots) (h1 : τ.1 = σ.1) (htag : ∀ b, b ≠ a → htg τ b = htg σ b) (hb : ∀ b, b ≠ a → cel (gA γ) τ b = cel (gA γ) σ b) (hla : hlo σ ≤ a) (ha : htg τ a < 999 → va_at (gD γ) cg (a, cel (gA γ) τ a) H1) (z : H1.size = H.size) (oq : ∀ q : Nat, q ≠ a → H1[q]? = H[q]?) (hL : ∀ x ∈ L, x.base = a) : Rl γ s u0 τ H1 (locs ++ L) cells slots := by
  obtain ⟨g1, g2, g3, g4, g5, g6, g7⟩ := h
  have el : hlo τ = hlo σ := by unfold hlo; rw [h1]
  have ez : hsz τ = hsz σ := by unfold hsz; rw [h1]
  have eu : hus τ = hus σ := by unfold hus; rw [h1]
  refine ⟨by rw [el]; exact g1, by rw [ez, z]; exact g2, fun b hbt => ?_, ⟨by rw [z]; exact g4.1, fun q h1 h2 => ?_, fun x hx => ?_⟩, by rw [ez]; exact g5, by rw [eu]; exact g6, by rw [← g7]; unfold hst; rw [h1]⟩
  · by_cases e : b = a
    · subst e
      exact ha hbt
    · rw [hb b e]
      rw [htag b e] at hbt
      exact (g3 b hbt).kept (oq b e)
  · have hqa : q ≠ a := fun e => h2 (by rw [e]; show (gs γ).heap.size ≤ a; omega)
    rw [oq q hqa]
    exact g4.2.1 q h1 h2
  · rcases List.mem_append.mp hx with h | h
    · exact g4.2.2 x h
    · rw [hL x h]
      show (gs γ).heap.size ≤ a
      omega
theorem J.wr {τ : Hp} {pc' : Nat} {st' : List Value} (h1 : τ.1 = σ.1)
    (h : ∀ (p : Program) (e : Env) (R : Room) (s : State) (m : MethodId) (args : Array Value) (below : List Frame) (meth : Method) (c : Code) (Q : State → Prop), KOK γ μ φ p R s m meth c → ∀ (H : Heap) (locs : List Loc) (cells slots : Nat) (ls : Array Slot), Rl γ s (hus φ.1) σ H locs cells slots → LV ls μ.2.2.1 l →
      (∀ (H1 : Heap) (locs1 : List Loc), Rl γ s (hus φ.1) τ H1 locs1 cells slots → W p (gl γ) e R s m args below meth c H1 locs1 cells slots Q (F0 m pc' ls st')) → W p (gl γ) e R s m args below meth c H locs cells slots Q (F0 m pc ls st))
    (k : J γ μ φ τ pc' l st') : J γ μ φ σ pc l st := by
  have ez : hsz τ = hsz σ := by unfold hsz; rw [h1]
  have eu : hus τ = hus σ := by unfold hus; rw [h1]
  refine ⟨by rw [← ez, ← eu]; exact k.1, fun p e R s m args below meth c K H locs cells slots ls hR hl => ?_⟩
  exact h p e R s m args below meth c _ K H locs cells slots ls hR hl (fun H1 locs1 hR1 => k.2 p e R s m args below meth c K H1 locs1 cells slots ls hR1 hl)
theorem J_putv {τ : Hp} {a idx k : Nat} {cs : List Nat} {ty : FieldType} {v : Value} (n : Nat) (d : decode μ.1 pc = .ok (.putfield idx, 3)) (e : pc + 3 = n) (hF : POK μ.2.1 μ.2.2.2.2.2.1 idx cs k ty) (hc : htg σ a ∈ cs) (hla : hlo σ ≤ a) (h1 : τ.1 = σ.1) (htg1 : htg τ = htg σ)
    (hb : ∀ b, b ≠ a → cel (gA γ) τ b = cel (gA γ) σ b) (hset : cgty (htg σ a) k = ty → k < cgN (htg σ a) → flds (htg σ a) τ a = (flds (htg σ a) σ a).set k v) (hn : narrow ty v = v) (hfit : fits ty v = true) (k9 : J γ μ φ τ n l st) : J γ μ φ σ pc l (v :: va_rf (some a) :: st) := by
  subst e
  obtain ⟨hlt, C, T, N, hcg, hkN, hFL, hty, hnm, hfin⟩ := hF _ hc
  have hN : cgN (htg σ a) = N := cgN_of hcg
  have hset := hset hty (by omega)
  refine J.wr h1 (fun p e R s m args below meth c Q K H locs cells slots ls hR hl w => ?_) k9
  have hat := hR.2.2.1 a (by omega)
  rw [cel_o hlt] at hat
  obtain ⟨r, hr1, cell, q1, q2, q3, q4⟩ := hat
  have hr : r = (C, T, N) := Option.some.inj (hr1.symm.trans hcg)
  subst hr
  obtain ⟨hS, hfc, kC, hkC, hkind⟩ := K.k.1 _ _ hcg
  obtain ⟨cf, kf, fi, f, hi, hsl⟩ := hS k hkN
  have hin := cg_in _ _ hcg
  have hts : ∀ w ∈ lw_all, w.before args s = true := fun w h => K.wd h
  have htyk := cg_tyok _ _ hcg
  have hd : parseFieldDescriptor (T k).2.2.1 = some ty := by rw [← hty]; exact htyk k hkN
  have hst := (u_facts hfc hkC (u_lays hts hin hkN) hi).1
  have hap : ∀ j, j < N → j ≠ k → (gD γ).2 (htg σ a) k ≠ (gD γ).2 (htg σ a) j := by
    intro j hj hne
    obtain ⟨_, _, _, fb, hib, eb⟩ := hS j hj
    try dsimp only at hsl eb
    rw [← hsl, ← eb]
    refine u_apart (u_lays hts hin hkN) (u_lays hts hin hj) hi hib ?_
    rw [(State.fieldFound?_type hi (htyk k hkN)).1, (State.fieldFound?_type hib (htyk j hj)).1]
    exact Ne.symm (hnm j hj hne)
  have hslt : f.slot < cell.slots.size := by rw [hsl]; exact k2_hasslot (q4 k hkN)
  have fin : ∀ H' : Heap, H'[a]? = some (cell.setSlot f.slot v) → H'.size = H.size → (∀ q, q ≠ a → H'[q]? = H[q]?) → W p (gl γ) e R s m args below meth c H' (locs ++ [⟨a, f.slot⟩]) cells slots Q (F0 m (pc + 3) ls st) := by
    intro H' e1 e2 e3
    refine w H' _ (hR.set h1 (fun b _ => by rw [htg1]) hb hla (fun _ => ?_) e2 e3 (fun x hx => by rw [List.mem_singleton.mp hx]))
    rw [cel_o (by rw [htg1]; exact hlt), htg1, hset]
    refine ⟨_, hcg, cell.setSlot f.slot v, e1, q2, q3, fun j hj => ?_⟩
    dsimp only at hsl ⊢
    rw [hsl]
    by_cases hjk : j = k
    · subst hjk
      rw [Cell.slots_setSlot_self _ (k2_hasslot (q4 j hj))]
      have hl2 : j < (flds (htg σ a) σ a).length := by rw [flds_len, hN]; exact hj
      simp [vp_V, hl2]
    · rw [slot_ne _ _ (hap j hj hjk), q4 j hj]
      simp [vp_V, List.getElem?_set_ne (Ne.symm hjk)]
  rcases hfin with hfin | ⟨hfin, hnin, hdecl, ref, hl1, hs⟩
  · have hlay := hts _ (hin _ (u_in_lay hkN))
    unfold u_lay at hlay
    rw [if_neg (by dsimp only; rw [hfin]; decide)] at hlay
    have h6 := u_store hfc hkC hkind hlay hi hd hn hfit
    rcases hFL with ⟨ref, hl1, hs⟩ | ⟨host, hl1⟩
    · refine W.putK K.x K.b (f := f) ⟨K.o, K.wd hl1, ⟨cf, kf, fi, ?_⟩, hst⟩ (by rw [q2]; exact h6) q1 q3 hslt rfl rfl d fin
      rcases hs with rfl | hs
      · exact hi
      · exact u_same (K.wd hs (args := args)) _ hi
    · exact va_WputK K.x K.b (f := f) K.o (va_Nw.use rfl (va_Nw.warmF K.w (va_Nw.of rfl (K.1.1 _ hl1)))) hi hst (by rw [q2]; exact h6) q1 q3 hslt rfl rfl d fin
  · have hlay := hts _ (hin _ (u_in_lay hkN))
    unfold u_lay at hlay
    rw [if_pos hfin] at hlay
    have hcf : m.cls = cf := by
      obtain ⟨_, _, c', _, _, _, -, -, hf', -, -, -, hown2, -⟩ := Cond.laysFinal_spec hlay
      have e1 : c' = cf := by have := hi.symm.trans hf'; simp at this; exact this.1.symm
      dsimp only at hown2
      rw [hdecl] at hown2
      rw [← e1]; exact Option.some.inj (K.o.symm.trans hown2)
    have h6 := u_fits hfc hkC hkind (Or.inr hlay) hi hd hn hfit
    refine W.putFinK (cf := cf) (k := kf) (i := fi) (f := f) K.x K.b K.o (K.wd hl1) ?_ hst hcf (K.nm.trans hnin) (by rw [q2]; exact h6) q1 q3 hslt rfl rfl d fin
    rcases hs with rfl | hs
    · exact hi
    · exact u_same (K.wd hs (args := args)) _ hi
end JH
theorem flds_wI {c : Nat} {σ : Hp} {a k : Nat} {v : Int32} (h : isI (cgty c k) = true) (hk : k < cgN c) : flds c (wI σ a k v) a = (flds c σ a).set k (.int v) := by
  apply List.ext_getElem?
  intro j
  by_cases hj : j < cgN c
  · rw [flds_at hj]
    by_cases e : j = k
    · subst e
      rw [List.getElem?_set_self (by rw [flds_len]; exact hj), fv_I h]
      congr 2
      exact if_pos ⟨rfl, rfl⟩
    · rw [List.getElem?_set_ne (Ne.symm e), flds_at hj]
      have : hI (wI σ a k v) a j = hI σ a j := if_neg (fun q => e q.2)
      unfold fv
      rw [this]
      rfl
  · rw [List.getElem?_eq_none (by rw [flds_len]; omega), List.getElem?_eq_none (by rw [List.length_set, flds_len]; omega)]
theorem flds_wL {c : Nat} {σ : Hp} {a k : Nat} {v : Int64} (h : isL (cgty c k) = true) (hk : k < cgN c) : flds c (wL σ a k v) a = (flds c σ a).set k (.long v) := by
  apply List.ext_getElem?
  intro j
  by_cases hj : j < cgN c
  · rw [flds_at hj]
    by_cases e : j = k
    · subst e
      rw [List.getElem?_set_self (by rw [flds_len]; exact hj), fv_L h]
      congr 2
      exact if_pos ⟨rfl, rfl⟩
    · rw [List.getElem?_set_ne (Ne.symm e), flds_at hj]
      have : hL (wL σ a k v) a j = hL σ a j := if_neg (fun q => e q.2)
      unfold fv
      rw [this]
      rfl
  · rw [List.getElem?_eq_none (by rw [flds_len]; omega), List.getElem?_eq_none (by rw [List.length_set, flds_len]; omega)]
theorem flds_wR {c : Nat} {σ : Hp} {a k : Nat} {v : Option Nat} (h : isR (cgty c k) = true) (hk : k < cgN c) : flds c (wR σ a k v) a = (flds c σ a).set k (va_rf v) := by
  apply List.ext_getElem?
  intro j
  by_cases hj : j < cgN c
  · rw [flds_at hj]
    by_cases e : j = k
    · subst e
      rw [List.getElem?_set_self (by rw [flds_len]; exact hj), fv_R h]
      congr 2
      exact if_pos ⟨rfl, rfl⟩
    · rw [List.getElem?_set_ne (Ne.symm e), flds_at hj]
      have : hR (wR σ a k v) a j = hR σ a j := if_neg (fun q => e q.2)
      unfold fv
      rw [this]
      rfl
  · rw [List.getElem?_eq_none (by rw [flds_len]; omega), List.getElem?_eq_none (by rw [List.length_set, flds_len]; omega)]
theorem nr_R {ty : FieldType} (hty : isR ty = true) (v : Option Nat) : narrow ty (va_rf v) = va_rf v ∧ fits ty (va_rf v) = true := by
  cases ty <;> first | (cases v <;> exact ⟨rfl, rfl⟩) | exact nomatch hty
section JP
variable {γ : GP} {μ : MP} {φ : FP} {σ : Hp} {pc : Nat} {l : LVs} {st : List Value}
def pI (σ : Hp) (r : Option Nat) (cs : List Nat) (k : Nat) (v : Int32) : Option Hp := r.bind fun a => if htg σ a ∈ cs ∧ hlo σ ≤ a then some (wI σ a k v) else none
def pZ (σ : Hp) (r : Option Nat) (cs : List Nat) (k : Nat) (v : Int32) : Option Hp := r.bind fun a => if (htg σ a ∈ cs ∧ hlo σ ≤ a) ∧ (v = 0 ∨ v = 1) then some (wI σ a k v) else none
def pL (σ : Hp) (r : Option Nat) (cs : List Nat) (k : Nat) (v : Int64) : Option Hp := r.bind fun a => if htg σ a ∈ cs ∧ hlo σ ≤ a then some (wL σ a k v) else none
def pR (σ : Hp) (r : Option Nat) (cs : List Nat) (k : Nat) (v : Option Nat) : Option Hp := r.bind fun a => if htg σ a ∈ cs ∧ hlo σ ≤ a then some (wR σ a k v) else none
theorem J_pI {τ : Hp} {r : Option Nat} {idx k : Nat} {cs : List Nat} {v : Int32} (n : Nat) (d : decode μ.1 pc = .ok (.putfield idx, 3)) (e : pc + 3 = n) (hF : POK μ.2.1 μ.2.2.2.2.2.1 idx cs k .int) (h : pI σ r cs k v = some τ) (k9 : J γ μ φ τ n l st) : J γ μ φ σ pc l (.int v :: va_rf r :: st) := by
  obtain ⟨a, rfl, h⟩ := some_of_bind h
  obtain ⟨⟨hc, hla⟩, rfl⟩ := ite_some h
  exact J_putv (τ := wI σ a k v) n d e hF hc hla rfl rfl (fun b hb => cel_wI hb) (fun ht hk => flds_wI (by rw [ht]; rfl) hk) rfl rfl k9
theorem J_pZ {τ : Hp} {r : Option Nat} {idx k : Nat} {cs : List Nat} {v : Int32} (n : Nat) (d : decode μ.1 pc = .ok (.putfield idx, 3)) (e : pc + 3 = n) (hF : POK μ.2.1 μ.2.2.2.2.2.1 idx cs k .boolean) (h : pZ σ r cs k v = some τ) (k9 : J γ μ φ τ n l st) : J γ μ φ σ pc l (.int v :: va_rf r :: st) := by
  obtain ⟨a, rfl, h⟩ := some_of_bind h
  obtain ⟨⟨⟨hc, hla⟩, hv⟩, rfl⟩ := ite_some h
  exact J_putv (τ := wI σ a k v) n d e hF hc hla rfl rfl (fun b hb => cel_wI hb) (fun ht hk => flds_wI (by rw [ht]; rfl) hk) (by rcases hv with rfl | rfl <;> decide) (by rcases hv with rfl | rfl <;> decide) k9
theorem J_pL {τ : Hp} {r : Option Nat} {idx k : Nat} {cs : List Nat} {v : Int64} (n : Nat) (d : decode μ.1 pc = .ok (.putfield idx, 3)) (e : pc + 3 = n) (hF : POK μ.2.1 μ.2.2.2.2.2.1 idx cs k .long) (h : pL σ r cs k v = some τ) (k9 : J γ μ φ τ n l st) : J γ μ φ σ pc l (.long v :: va_rf r :: st) := by
  obtain ⟨a, rfl, h⟩ := some_of_bind h
  obtain ⟨⟨hc, hla⟩, rfl⟩ := ite_some h
  exact J_putv (τ := wL σ a k v) n d e hF hc hla rfl rfl (fun b hb => cel_wL hb) (fun ht hk => flds_wL (by rw [ht]; rfl) hk) rfl rfl k9
theorem J_pR {τ : Hp} {r v : Option Nat} {idx k : Nat} {cs : List Nat} {ty : FieldType} (hty : isR ty = true) (n : Nat) (d : decode μ.1 pc = .ok (.putfield idx, 3)) (e : pc + 3 = n) (hF : POK μ.2.1 μ.2.2.2.2.2.1 idx cs k ty) (h : pR σ r cs k v = some τ) (k9 : J γ μ φ τ n l st) : J γ μ φ σ pc l (va_rf v :: va_rf r :: st) := by
  obtain ⟨a, rfl, h⟩ := some_of_bind h
  obtain ⟨⟨hc, hla⟩, rfl⟩ := ite_some h
  exact J_putv (τ := wR σ a k v) n d e hF hc hla rfl rfl (fun b hb => cel_wR hb) (fun ht hk => flds_wR (by rw [ht]; exact hty) hk) (nr_R hty v).1 (nr_R hty v).2 k9
end JP
