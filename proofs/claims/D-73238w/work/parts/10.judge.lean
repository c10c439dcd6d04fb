set_option maxRecDepth 100000
/-! THE JUDGEMENT. γ: the law's start, its argument, the classes' numbers, the launch. μ: a method. φ: its start, outcome (thrown, or returned), end -/
abbrev GP : Type := State × Nat × va_G × (Nat → ClassId) × Launch × (Nat → Option Nat)
def gs (γ : GP) : State := γ.1
def gb (γ : GP) : Nat := γ.2.1
def gD (γ : GP) : va_G := γ.2.2.1
def gA (γ : GP) : Nat → ClassId := γ.2.2.2.1
def gl (γ : GP) : Launch := γ.2.2.2.2.1
def gst (γ : GP) : Nat → Option Nat := γ.2.2.2.2.2
def gF (γ : GP) : Nat → Prop := fun q => (gs γ).heap.size ≤ q
def tyl (cA : Nat → ClassId) : List (ClassId × FieldType) := (List.range 16).map (fun t => (cA t, ag.getD t .int))
theorem tyl_at (cA : Nat → ClassId) {t : Nat} (h : t < 16) : (tyl cA)[t]? = some (cA t, ag.getD t .int) := by
  unfold tyl
  rw [List.getElem?_map, List.getElem?_range h]
  rfl
/-- statics that hold references, by number; statics of numbers; String constants, by number -/
def stl : List (Nat × String × String × String) := [(0, "java/util/ArrayList", "DEFAULTCAPACITY_EMPTY_ELEMENTDATA", "[Ljava/lang/Object;"), (1, "java/lang/Integer", "DigitTens", "[B"), (2, "java/lang/Integer", "DigitOnes", "[B"), (3, "java/lang/Throwable", "UNASSIGNED_STACK", "[Ljava/lang/StackTraceElement;"), (4, "java/lang/Throwable", "SUPPRESSED_SENTINEL", "Ljava/util/List;"), (5, "jdk/internal/util/Preconditions", "SIOOBE_FORMATTER", "Ljava/util/function/BiFunction;")]
def sti : List (String × String × String × Int32) := [("java/lang/String", "COMPACT_STRINGS", "Z", 1)]
def strl : List (Nat × String × Nat × String) := [(138, "java/lang/String", 1005, "null"), (111, "java/lang/Throwable", 81, ": "), (100, "MissCurves", 92, ""), (106, "MissCurves", 390, ","), (110, "MissCurves", 398, ":"), (108, "MissCurves", 407, "."), (143, "MissCurves$LawReader", 11, "tenant"), (129, "MissCurves$LawReader", 13, "key"), (142, "MissCurves$LawReader", 15, "reads"), (126, "MissCurves$LawReader", 17, "far"), (144, "MissCurves$LawReader", 19, "time"), (135, "MissCurves$LawReader", 21, "mood"), (122, "MissCurves$LawReader", 35, "costs"), (119, "MissCurves$LawReader", 37, "bars"), (128, "MissCurves$LawReader", 74, "if"), (140, "MissCurves$OrderReader", 82, "pass"), (141, "MissCurves$OrderReader", 87, "read"), (132, "MissCurves$OrderReader", 89, "loop"), (125, "MissCurves$OrderReader", 91, "drop"), (146, "MissCurves$OrderReader", 93, "to"), (120, "MissCurves$OrderReader", 98, "by"), (145, "MissCurves$OrderReader", 104, "times"), (128, "MissCurves$OrderReader", 112, "if"), (144, "MissCurves$OrderReader", 11, "time"), (124, "MissCurves$OrderReader", 13, "done"), (130, "MissCurves$OrderReader", 15, "latest"), (121, "MissCurves$OrderReader", 17, "cold"), (123, "MissCurves$OrderReader", 19, "deep"), (133, "MissCurves$Leaving", 35, "lru"), (136, "MissCurves$Leaving", 41, "mru"), (127, "MissCurves$Leaving", 43, "fifo"), (131, "MissCurves$Leaving", 45, "lfu"), (134, "MissCurves$Leaving", 47, "min"), (116, "MissCurves$Reader", 173, "["), (117, "MissCurves$Reader", 175, "]"), (104, "MissCurves$Reader", 167, "*"), (109, "MissCurves$Reader", 169, "/"), (101, "MissCurves$Reader", 171, "%"), (105, "MissCurves$Reader", 157, "+"), (107, "MissCurves$Reader", 159, "-"), (137, "MissCurves$Reader", 119, "not"), (102, "MissCurves$Reader", 121, "("), (103, "MissCurves$Reader", 129, ")"), (113, "MissCurves$Reader", 139, "<"), (115, "MissCurves$Reader", 141, ">"), (114, "MissCurves$Reader", 143, "="), (118, "MissCurves$Reader", 100, "and"), (139, "MissCurves$Reader", 91, "or"), (112, "MissCurves$Reader", 36, ";")]
/-- what holds of the law's start -/
def GOK (γ : GP) : Prop := (∀ w ∈ lw_tbl, w.before #[Value.ref (gb γ)] (gs γ) = true) ∧ va_K (gD γ) cg (tyl (gA γ)) (gs γ) ∧ (gl γ).flags = flags0 ∧ (Jvm.Cond.and given_1 narrow_1).before #[Value.ref (gb γ)] (gs γ) = true ∧ (∀ q ∈ stl, va_Z q.2.1 q.2.2.1 q.2.2.2 (va_rf (gst γ q.1)) (gF γ) (gs γ) (gs γ).heap) ∧ (∀ q ∈ sti, va_Z q.1 q.2.1 q.2.2.1 (.int q.2.2.2) (gF γ) (gs γ) (gs γ).heap) ∧ (∀ q ∈ strl, ∃ a, gst γ q.1 = some a ∧ vk_R q.2.1 q.2.2.1 q.2.2.2 a (gs γ)) ∧ ∃ mi, gst γ 6 = some mi ∧ va_Mi "[Ljava/lang/Object;" mi (gs γ)
abbrev MP : Type := ByteArray × String × Nat × Option FieldType × Nat × String × List (Nat × Nat × Nat × Nat)
abbrev FP : Type := Hp × (Nat ⊕ Option Value) × Hp
def rmO (d : Nat) (φ : FP) : Room := { frames := d, cells := hsz φ.2.2 - hsz φ.1, slots := hus φ.2.2 - hus φ.1, locals := 64 * d }
/-- a state of the machine that the abstract heap σ tells -/
def Gd (γ : GP) (σ : Hp) (U : State) : Prop := (gs γ).WarmedH U.vm ∧ hlo σ = (gs γ).heap.size ∧ hlo σ ≤ hsz σ ∧ U.heap.size = hsz σ ∧ (∀ a, htg σ a < 999 → va_at (gD γ) cg (a, cel (gA γ) σ a) U.heap) ∧ (∀ q, q < (gs γ).heap.size → U.heap[q]? = (gs γ).heap[q]?) ∧ hst σ = gst γ
def Qr (γ : GP) (v : Option Value) (σ : Hp) : Array Value → State → Outcome → State → Prop := fun _ st oc t => oc = .returned v ∧ Gd γ σ t ∧ va_F (gF γ) st t
/-- the class of what is thrown -/
def thE (σ : Hp) (q : Nat) : String := if htg σ q = 11 then "MissCurves$Wrong" else "java/lang/ArrayIndexOutOfBoundsException"
def XQ (γ : GP) (q : Nat) (σ : Hp) : String → Addr → State → State → Prop := fun E q' st t => E = thE σ q ∧ q' = q ∧ Gd γ σ t ∧ va_F (gF γ) st t
def noQ : Array Value → State → Outcome → State → Prop := fun _ _ _ _ => False
def QJ (γ : GP) (φ : FP) (below : List Frame) (args : Array Value) (s : State) : State → Prop := match φ.2.1 with
  | .inr v => MQ below (Qr γ v φ.2.2) args s (hsz φ.2.2 - hsz φ.1) (hus φ.2.2 - hus φ.1) (gF γ)
  | .inl q => vy_MQ below noQ (XQ γ q φ.2.2) args s (hsz φ.2.2 - hsz φ.1) (hus φ.2.2 - hus φ.1) (gF γ)
def KOK (γ : GP) (μ : MP) (φ : FP) (p : Program) (R : Room) (s : State) (m : MethodId) (meth : Method) (c : Code) : Prop :=
  GOK γ ∧ p.tables.exec = Jvm.exec ∧ c.code = μ.1 ∧ c.maxLocals = μ.2.2.1 ∧ meth.sig.returnType = μ.2.2.2.1 ∧ s.vm.findClass μ.2.1 = some m.cls ∧ meth.locks = false ∧ (gs γ).WarmedH s.vm ∧ (gs γ).heap.size ≤ s.heap.size ∧ (∀ q, q < (gs γ).heap.size → s.heap[q]? = (gs γ).heap[q]?) ∧ s.heap.size = hsz φ.1 ∧ R = rmO μ.2.2.2.2.1 φ ∧ meth.name = μ.2.2.2.2.2.1 ∧ c.exceptionTable.toList = tableOf μ.2.2.2.2.2.2
def Rl (γ : GP) (s : State) (u0 : Nat) (σ : Hp) (H : Heap) (locs : List Loc) (cells slots : Nat) : Prop :=
  hlo σ = (gs γ).heap.size ∧ H.size = hsz σ ∧ (∀ a, htg σ a < 999 → va_at (gD γ) cg (a, cel (gA γ) σ a) H) ∧ va_S (gF γ) s.heap H locs ∧ cells + s.heap.size = hsz σ ∧ slots + u0 = hus σ ∧ hst σ = gst γ
abbrev LVs : Type := List (Nat × Nat × Value)
def unl (l : LVs) : List (Nat × Value) := l.map (fun q => (q.1, q.2.2))
def LV (ls : Array Slot) (nL : Nat) (l : LVs) : Prop := lv_has ls nL (unl l) ∧ ∀ q ∈ l, q.2.2.category = q.2.1
def J (γ : GP) (μ : MP) (φ : FP) (σ : Hp) (pc : Nat) (l : LVs) (st : List Value) : Prop :=
  (hsz σ ≤ hsz φ.2.2 ∧ hus σ ≤ hus φ.2.2) ∧ ∀ (p : Program) (e : Env) (R : Room) (s : State) (m : MethodId) (args : Array Value) (below : List Frame) (meth : Method) (c : Code), KOK γ μ φ p R s m meth c →
    ∀ (H : Heap) (locs : List Loc) (cells slots : Nat) (ls : Array Slot), Rl γ s (hus φ.1) σ H locs cells slots → LV ls μ.2.2.1 l → W p (gl γ) e R s m args below meth c H locs cells slots (QJ γ φ below args s) (F0 m pc ls st)
/-- a step that leaves heap and locals -/
theorem J.st {γ : GP} {μ : MP} {φ : FP} {σ : Hp} {pc pc' : Nat} {l : LVs} {st st' : List Value}
    (h : ∀ (p : Program) (e : Env) (R : Room) (s : State) (m : MethodId) (args : Array Value) (below : List Frame) (meth : Method) (c : Code) (Q : State → Prop), KOK γ μ φ p R s m meth c → ∀ (H : Heap) (locs : List Loc) (cells slots : Nat) (ls : Array Slot), Rl γ s (hus φ.1) σ H locs cells slots → LV ls μ.2.2.1 l →
      W p (gl γ) e R s m args below meth c H locs cells slots Q (F0 m pc' ls st') → W p (gl γ) e R s m args below meth c H locs cells slots Q (F0 m pc ls st))
    (k : J γ μ φ σ pc' l st') : J γ μ φ σ pc l st :=
  ⟨k.1, fun p e R s m args below meth c K H locs cells slots ls hR hl => h p e R s m args below meth c _ K H locs cells slots ls hR hl (k.2 p e R s m args below meth c K H locs cells slots ls hR hl)⟩
theorem KOK.x {γ : GP} {μ : MP} {φ : FP} {p : Program} {R : Room} {s : State} {m : MethodId} {meth : Method} {c : Code} (K : KOK γ μ φ p R s m meth c) : p.tables.exec = Jvm.exec := K.2.1
theorem KOK.b {γ : GP} {μ : MP} {φ : FP} {p : Program} {R : Room} {s : State} {m : MethodId} {meth : Method} {c : Code} (K : KOK γ μ φ p R s m meth c) : c.code = μ.1 := K.2.2.1
theorem KOK.ml {γ : GP} {μ : MP} {φ : FP} {p : Program} {R : Room} {s : State} {m : MethodId} {meth : Method} {c : Code} (K : KOK γ μ φ p R s m meth c) : c.maxLocals = μ.2.2.1 := K.2.2.2.1
theorem KOK.rt {γ : GP} {μ : MP} {φ : FP} {p : Program} {R : Room} {s : State} {m : MethodId} {meth : Method} {c : Code} (K : KOK γ μ φ p R s m meth c) : meth.sig.returnType = μ.2.2.2.1 := K.2.2.2.2.1
theorem KOK.o {γ : GP} {μ : MP} {φ : FP} {p : Program} {R : Room} {s : State} {m : MethodId} {meth : Method} {c : Code} (K : KOK γ μ φ p R s m meth c) : s.vm.findClass μ.2.1 = some m.cls := K.2.2.2.2.2.1
theorem KOK.lk {γ : GP} {μ : MP} {φ : FP} {p : Program} {R : Room} {s : State} {m : MethodId} {meth : Method} {c : Code} (K : KOK γ μ φ p R s m meth c) : meth.locks = false := K.2.2.2.2.2.2.1
theorem KOK.w {γ : GP} {μ : MP} {φ : FP} {p : Program} {R : Room} {s : State} {m : MethodId} {meth : Method} {c : Code} (K : KOK γ μ φ p R s m meth c) : (gs γ).WarmedH s.vm := K.2.2.2.2.2.2.2.1
theorem KOK.lo {γ : GP} {μ : MP} {φ : FP} {p : Program} {R : Room} {s : State} {m : MethodId} {meth : Method} {c : Code} (K : KOK γ μ φ p R s m meth c) : (gs γ).heap.size ≤ s.heap.size := K.2.2.2.2.2.2.2.2.1
theorem KOK.old {γ : GP} {μ : MP} {φ : FP} {p : Program} {R : Room} {s : State} {m : MethodId} {meth : Method} {c : Code} (K : KOK γ μ φ p R s m meth c) : ∀ q, q < (gs γ).heap.size → s.heap[q]? = (gs γ).heap[q]? := K.2.2.2.2.2.2.2.2.2.1
theorem KOK.sz {γ : GP} {μ : MP} {φ : FP} {p : Program} {R : Room} {s : State} {m : MethodId} {meth : Method} {c : Code} (K : KOK γ μ φ p R s m meth c) : s.heap.size = hsz φ.1 := K.2.2.2.2.2.2.2.2.2.2.1
theorem KOK.rm {γ : GP} {μ : MP} {φ : FP} {p : Program} {R : Room} {s : State} {m : MethodId} {meth : Method} {c : Code} (K : KOK γ μ φ p R s m meth c) : R = rmO μ.2.2.2.2.1 φ := K.2.2.2.2.2.2.2.2.2.2.2.1
theorem KOK.nm {γ : GP} {μ : MP} {φ : FP} {p : Program} {R : Room} {s : State} {m : MethodId} {meth : Method} {c : Code} (K : KOK γ μ φ p R s m meth c) : meth.name = μ.2.2.2.2.2.1 := K.2.2.2.2.2.2.2.2.2.2.2.2.1
theorem KOK.tb {γ : GP} {μ : MP} {φ : FP} {p : Program} {R : Room} {s : State} {m : MethodId} {meth : Method} {c : Code} (K : KOK γ μ φ p R s m meth c) : c.exceptionTable.toList = tableOf μ.2.2.2.2.2.2 := K.2.2.2.2.2.2.2.2.2.2.2.2.2
/-- a word of the tables here -/
theorem KOK.wd {γ : GP} {μ : MP} {φ : FP} {p : Program} {R : Room} {s : State} {m : MethodId} {meth : Method} {c : Code} (K : KOK γ μ φ p R s m meth c) {w : Cond} (h : w ∈ lw_all) {args : Array Value} : w.before args s = true :=
  word_at K.w (lw_self w h).2 (K.1.1 w (lw_all_tbl h))
theorem KOK.k {γ : GP} {μ : MP} {φ : FP} {p : Program} {R : Room} {s : State} {m : MethodId} {meth : Method} {c : Code} (K : KOK γ μ φ p R s m meth c) : va_K (gD γ) cg (tyl (gA γ)) s := va_K.moved K.w.alike K.1.2.1
theorem va_P1 {D : va_G} {cl : List vw_C} {q : Nat × va_E} {H : Heap} (h : va_at D cl q H) : va_P D cl [q] H := by
  intro k x hx
  have hz : k < 1 := (List.getElem?_eq_some_iff.mp hx).1
  rw [show k = 0 by omega] at hx
  cases hx
  exact h
/-! locals -/
def lk (l : LVs) (k : Nat) : Option (Nat × Nat × Value) := l[k]?
theorem LV.at {ls : Array Slot} {nL : Nat} {l : LVs} (h : LV ls nL l) {k i c : Nat} {v : Value} (hk : l[k]? = some (i, c, v)) : ls[i]? = some (.val v) := by
  refine lv_at h.1 k (v := v) ?_
  unfold unl
  rw [List.getElem?_map, hk]
  rfl
/-- storing -/
def st1 (l : LVs) (i : Nat) (v : Value) : LVs := (i, 1, v) :: l.filter (fun q => !(q.1 == i) && !(q.1 + 1 == i && q.2.1 == 2))
def st2 (l : LVs) (i : Nat) (v : Value) : LVs := (i, 2, v) :: l.filter (fun q => !(q.1 == i) && (!(q.1 == i + 1) && !(q.1 + 1 == i && q.2.1 == 2)))
theorem unl_filter1 {l : LVs} {i : Nat} (hc : ∀ q ∈ l, q.2.2.category = q.2.1) : (unl l).filter (fun q => !(q.1 == i) && !(q.1 + 1 == i && q.2.category == 2)) = unl (l.filter (fun q => !(q.1 == i) && !(q.1 + 1 == i && q.2.1 == 2))) := by
  unfold unl
  rw [List.filter_map]
  congr 1
  apply List.filter_congr
  intro x hx
  simp only [Function.comp, hc x hx]
theorem unl_filter2 {l : LVs} {i : Nat} (hc : ∀ q ∈ l, q.2.2.category = q.2.1) : (unl l).filter (fun q => !(q.1 == i) && (!(q.1 == i + 1) && !(q.1 + 1 == i && q.2.category == 2))) = unl (l.filter (fun q => !(q.1 == i) && (!(q.1 == i + 1) && !(q.1 + 1 == i && q.2.1 == 2)))) := by
  unfold unl
  rw [List.filter_map]
  congr 1
  apply List.filter_congr
  intro x hx
  simp only [Function.comp, hc x hx]
theorem LV.st1 {ls : Array Slot} {nL : Nat} {l : LVs} {i : Nat} {v : Value} (h : LV ls nL l) (hv : v.category = 1) (h1 : lv_has ls nL ((i, v) :: (unl l).filter (fun q => !(q.1 == i) && !(q.1 + 1 == i && q.2.category == 2)))) : LV ls nL (st1 l i v) := by
  refine ⟨?_, ?_⟩
  · rw [unl_filter1 h.2] at h1
    exact h1
  · intro q hq
    rcases List.mem_cons.mp hq with rfl | hq
    · exact hv
    · exact h.2 q (List.mem_filter.mp hq).1
theorem LV.pick {ls : Array Slot} {nL : Nat} {l l' : LVs} (h : LV ls nL l) (ks : List Nat) (e : ks.filterMap (fun k => l[k]?) = l') : LV ls nL l' := by
  subst e
  refine ⟨lv_sub h.1 ks ?_, ?_⟩
  · unfold lv_pick unl
    rw [List.map_filterMap]
    congr 1
    funext k
    rw [List.getElem?_map]
  · intro q hq
    obtain ⟨k, -, hk⟩ := List.mem_filterMap.mp hq
    exact h.2 q (List.mem_of_getElem? hk)
/-- fewer locals, in another order -/
theorem J.pick {γ : GP} {μ : MP} {φ : FP} {σ : Hp} {pc : Nat} {l l' : LVs} {st : List Value} (ks : List Nat) (e : ks.filterMap (fun k => l[k]?) = l') (k : J γ μ φ σ pc l' st) : J γ μ φ σ pc l st :=
  ⟨k.1, fun p e R s m args below meth c K H locs cells slots ls hR hl => k.2 p e R s m args below meth c K H locs cells slots ls hR (hl.pick ks (by assumption))⟩
