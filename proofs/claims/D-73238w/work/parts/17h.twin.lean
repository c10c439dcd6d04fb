set_option maxRecDepth 100000
/-! TWO FIELDS OF ONE NAME (the readers' this$0): their slots are apart, for their declarers are -/
theorem own_apart {args : Array Value} {s : State} {C o1 o2 n1 n2 d1 d2 : String} {c1 c2 i1 i2 : Nat} {k1 k2 : Class} {f1 f2 : Field} (h1 : (Cond.laysFinal C o1 n1 d1).before args s = true) (h2 : (Cond.laysFinal C o2 n2 d2).before args s = true) (hf1 : s.fieldFound? o1 n1 d1 = some (c1, k1, i1, f1)) (hf2 : s.fieldFound? o2 n2 d2 = some (c2, k2, i2, f2)) (hne : o1 ≠ o2) : f1.slot ≠ f2.slot := by
  obtain ⟨c, k, c1', k1', i1', f1', hc, -, hg1, -, -, -, ho1, -, e1, hd1, hn1, -⟩ := Cond.laysFinal_spec h1
  obtain ⟨c', k', c2', k2', i2', f2', hc', -, hg2, -, -, -, ho2, -, e2, hd2, hn2, -⟩ := Cond.laysFinal_spec h2
  have a1 := hf1.symm.trans hg1
  have a2 := hf2.symm.trans hg2
  simp only [Option.some.injEq, Prod.mk.injEq] at a1 a2
  obtain ⟨rfl, rfl, rfl, rfl⟩ := a1
  obtain ⟨rfl, rfl, rfl, rfl⟩ := a2
  have hcc : c = c' := Option.some.inj (hc.symm.trans hc')
  subst hcc
  intro hs
  rw [hs] at hd1
  have hee : e1 = e2 := Option.some.inj (hd1.symm.trans hd2)
  obtain ⟨kx, hkx, hnx⟩ := Vm.findClass_spec ho1
  obtain ⟨ky, hky, hny⟩ := Vm.findClass_spec ho2
  have z1 : kx = k1 := Option.some.inj (hkx.symm.trans (State.fieldFound?_spec hf1).1)
  have z2 : ky = k2 := Option.some.inj (hky.symm.trans (State.fieldFound?_spec hf2).1)
  apply hne
  rw [← hnx, ← hny, z1, z2, ← hn1, ← hn2, hee]
def POK2 (own : String) (nm : String) (idx : Nat) (cs : List Nat) (k : Nat) (ty : FieldType) : Prop := ∀ c ∈ cs, c < 100 ∧ ∃ (C : String) (T : u_T) (N : Nat), cg[c]? = some (C, T, N) ∧ k < N ∧ FL own idx (T k) ∧ cgty c k = ty ∧ (∀ j, j < N → j ≠ k → (T j).2.1 ≠ (T k).2.1 ∨ ((T j).1 ≠ (T k).1 ∧ (T j).2.2.2 = true)) ∧
  ((T k).2.2.2 = true ∧ nm = "<init>" ∧ (T k).1 = own ∧ ∃ ref, Cond.fieldLink own idx ref (T k).2.1 (T k).2.2.1 ∈ lw_all ∧ (ref = (T k).1 ∨ Cond.sameField ref (T k).1 (T k).2.1 (T k).2.2.1 ∈ lw_all))
section JH2
variable {γ : GP} {μ : MP} {φ : FP} {σ : Hp} {pc : Nat} {l : LVs} {st : List Value}
theorem J_putv2 {τ : Hp} {a idx k : Nat} {cs : List Nat} {ty : FieldType} {v : Value} (n : Nat) (d : decode μ.1 pc = .ok (.putfield idx, 3)) (e : pc + 3 = n) (hF : POK2 μ.2.1 μ.2.2.2.2.2.1 idx cs k ty) (hc : htg σ a ∈ cs) (hla : hlo σ ≤ a) (h1 : τ.1 = σ.1) (htg1 : htg τ = htg σ)
    (hb : ∀ b, b ≠ a → cel (gA γ) τ b = cel (gA γ) σ b) (hset : cgty (htg σ a) k = ty → k < cgN (htg σ a) → flds (htg σ a) τ a = (flds (htg σ a) σ a).set k v) (hn : narrow ty v = v) (hfit : fits ty v = true) (k9 : J γ μ φ τ n l st) : J γ μ φ σ pc l (v :: va_rf (some a) :: st) := by
  subst e
  obtain ⟨hlt, C, T, N, hcg, hkN, hFL, hty, hnm, hfin⟩ := hF _ hc
  have hN : cgN (htg σ a) = N := cgN_of hcg
  have hset := hset hty (by omega)
  refine J.wr h1 (fun p e R s m args below meth c Q K H locs cells slots ls hR hl w => ?_) k9
  have hat := hR.2.2.1 a (by omega)
  rw [cel_o hlt] at hat
  obtain ⟨r, hr1, cell, q1, q2, q3, q4⟩ := hat
  have hr : r = (C, T, N) := Option.some.inj (hr1.symm.trans hcg)
  subst hr
  obtain ⟨hS, hfc, kC, hkC, hkind⟩ := K.k.1 _ _ hcg
  obtain ⟨cf, kf, fi, f, hi, hsl⟩ := hS k hkN
  have hin := cg_in _ _ hcg
  have hts : ∀ w ∈ lw_all, w.before args s = true := fun w h => K.wd h
  have htyk := cg_tyok _ _ hcg
  have hd : parseFieldDescriptor (T k).2.2.1 = some ty := by rw [← hty]; exact htyk k hkN
  have hst := (u_facts hfc hkC (u_lays hts hin hkN) hi).1
  have hlk := hts _ (hin _ (u_in_lay hkN))
  have hap : ∀ j, j < N → j ≠ k → (gD γ).2 (htg σ a) k ≠ (gD γ).2 (htg σ a) j := by
    intro j hj hne
    obtain ⟨_, _, _, fb, hib, eb⟩ := hS j hj
    try dsimp only at hsl eb
    rw [← hsl, ← eb]
    rcases hnm j hj hne with h2 | ⟨h2, h3⟩
    · refine u_apart (u_lays hts hin hkN) (u_lays hts hin hj) hi hib ?_
      rw [(State.fieldFound?_type hi (htyk k hkN)).1, (State.fieldFound?_type hib (htyk j hj)).1]
      exact Ne.symm h2
    · have hlj := hts _ (hin _ (u_in_lay hj))
      unfold u_lay at hlk hlj
      rw [if_pos hfin.1] at hlk
      rw [if_pos h3] at hlj
      exact own_apart hlk hlj hi hib (Ne.symm h2)
  have hslt : f.slot < cell.slots.size := by rw [hsl]; exact k2_hasslot (q4 k hkN)
  have fin : ∀ H' : Heap, H'[a]? = some (cell.setSlot f.slot v) → H'.size = H.size → (∀ q, q ≠ a → H'[q]? = H[q]?) → W p (gl γ) e R s m args below meth c H' (locs ++ [⟨a, f.slot⟩]) cells slots Q (F0 m (pc + 3) ls st) := by
    intro H' e1 e2 e3
    refine w H' _ (hR.set h1 (fun b _ => by rw [htg1]) hb hla (fun _ => ?_) e2 e3 (fun x hx => by rw [List.mem_singleton.mp hx]))
    rw [cel_o (by rw [htg1]; exact hlt), htg1, hset]
    refine ⟨_, hcg, cell.setSlot f.slot v, e1, q2, q3, fun j hj => ?_⟩
    dsimp only at hsl ⊢
    rw [hsl]
    by_cases hjk : j = k
    · subst hjk
      rw [Cell.slots_setSlot_self _ (k2_hasslot (q4 j hj))]
      have hl2 : j < (flds (htg σ a) σ a).length := by rw [flds_len, hN]; exact hj
      simp [vp_V, hl2]
    · rw [slot_ne _ _ (hap j hj hjk), q4 j hj]
      simp [vp_V, List.getElem?_set_ne (Ne.symm hjk)]
  obtain ⟨hfin, hnin, hdecl, ref, hl1, hs⟩ := hfin
  have hlay := hts _ (hin _ (u_in_lay hkN))
  unfold u_lay at hlay
  rw [if_pos hfin] at hlay
  have hcf : m.cls = cf := by
    obtain ⟨_, _, c', _, _, _, -, -, hf', -, -, -, hown2, -⟩ := Cond.laysFinal_spec hlay
    have e1 : c' = cf := by have := hi.symm.trans hf'; simp at this; exact this.1.symm
    dsimp only at hown2
    rw [hdecl] at hown2
    rw [← e1]; exact Option.some.inj (K.o.symm.trans hown2)
  have h6 := u_fits hfc hkC hkind (Or.inr hlay) hi hd hn hfit
  refine W.putFinK (cf := cf) (k := kf) (i := fi) (f := f) K.x K.b K.o (K.wd hl1) ?_ hst hcf (K.nm.trans hnin) (by rw [q2]; exact h6) q1 q3 hslt rfl rfl d fin
  rcases hs with rfl | hs
  · exact hi
  · exact u_same (K.wd hs (args := args)) _ hi
theorem J_pR2 {τ : Hp} {r v : Option Nat} {idx k : Nat} {cs : List Nat} {ty : FieldType} (hty : isR ty = true) (n : Nat) (d : decode μ.1 pc = .ok (.putfield idx, 3)) (e : pc + 3 = n) (hF : POK2 μ.2.1 μ.2.2.2.2.2.1 idx cs k ty) (h : pR σ r cs k v = some τ) (k9 : J γ μ φ τ n l st) : J γ μ φ σ pc l (va_rf v :: va_rf r :: st) := by
  obtain ⟨a, rfl, h⟩ := some_of_bind h
  obtain ⟨⟨hc, hla⟩, rfl⟩ := ite_some h
  exact J_putv2 (τ := wR σ a k v) n d e hF hc hla rfl rfl (fun b hb => cel_wR hb) (fun ht hk => flds_wR (by rw [ht]; exact hty) hk) (nr_R hty v).1 (nr_R hty v).2 k9
theorem pk2_9 : POK2 "MissCurves$Reader" "<init>" 3 [10, 23] 7 (.object "MissCurves") := by
  intro c hc
  rcases List.mem_cons.mp hc with rfl | hc
  · exact ⟨by decide, RX10, TX10, 11, rfl, by decide, Or.inl ⟨_, q1086, Or.inl rfl⟩, rfl, by decide +kernel, rfl, rfl, rfl, _, q1086, Or.inl rfl⟩
  · cases List.mem_singleton.mp hc
    exact ⟨by decide, RX23, TX23, 10, rfl, by decide, Or.inl ⟨_, q1086, Or.inl rfl⟩, rfl, by decide +kernel, rfl, rfl, rfl, _, q1086, Or.inl rfl⟩
theorem pk2_10 : POK2 "MissCurves$LawReader" "<init>" 3 [10] 10 (.object "MissCurves") := by
  intro c hc
  cases List.mem_singleton.mp hc
  exact ⟨by decide, RX10, TX10, 11, rfl, by decide, Or.inl ⟨_, q1074, Or.inl rfl⟩, rfl, by decide +kernel, rfl, rfl, rfl, _, q1074, Or.inl rfl⟩
theorem pk2_23 : POK2 "MissCurves$OrderReader" "<init>" 3 [23] 9 (.object "MissCurves") := by
  intro c hc
  cases List.mem_singleton.mp hc
  exact ⟨by decide, RX23, TX23, 10, rfl, by decide, Or.inl ⟨_, q2071, Or.inl rfl⟩, rfl, by decide +kernel, rfl, rfl, rfl, _, q2071, Or.inl rfl⟩
end JH2
