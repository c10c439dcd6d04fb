set_option maxRecDepth 100000
/-! byteAt: the machine throws if the place lies behind the row's end -/
def exC : String := "java/lang/ArrayIndexOutOfBoundsException"
def exN : List String := ["java/lang/IndexOutOfBoundsException", "java/lang/RuntimeException", "java/lang/Exception"]
theorem ex_eq : vy_atM exC exN = ([143, 722, 678, 682, 685, 687, 723, 724, 186, 187, 672, 677, 683, 690, 716, 691, 717, 692, 718, 673, 675, 719, 670, 671, 689, 719, 658, 659, 660, 661, 708, 661, 662, 663, 664, 710, 664, 665, 666, 667, 712, 667, 668, 669, 670, 714, 148, 725, 471, 726, 728, 727, 729, 147, 657, 706, 715, 681, 697, 699, 703, 695, 688, 720, 693] : List Nat).filterMap (fun i => lw_tbl[i]?) := by decide +kernel
theorem ex_in : ∀ w ∈ vy_atM exC exN, w ∈ lw_tbl := by
  intro w hw
  rw [ex_eq] at hw
  obtain ⟨i, -, hi⟩ := List.mem_filterMap.mp hw
  exact List.mem_of_getElem? hi
def exB (w : Cond) : Bool := match w with
  | .castable _ _ => true
  | .declares _ => true
  | _ => goodWord w
theorem ex_B : ∀ w ∈ vy_atM exC exN, exB w = true := by decide +kernel
theorem ex_ot : ∀ w ∈ vy_atM exC exN, vy_ot w = true := by decide +kernel
def exT (n : Nat) : String := toString "Index " ++ toString (Int32.ofNat n) ++ toString " out of bounds for length " ++ toString n
theorem exT_ok (n : Nat) (h : n < 2 ^ 31) : (stringBytes (stringToUtf16 (exT n))).size ≤ 212 := index_text_bytes (Int32.ofNat n) h
/-- three new cells of which nothing is told -/
def wX (σ : Hp) (u : Nat) : Hp := ((hlo σ, hsz σ + 3, hus σ + u, hst σ), ((fun b => if b < hsz σ then htg σ b else 999), hln σ), σ.2.2)
theorem Rl_wX {γ : GP} {s : State} {u0 u : Nat} {σ : Hp} {H H1 : Heap} {locs : List Loc} {cells slots : Nat} (h : Rl γ s u0 σ H locs cells slots) (hz : H1.size = H.size + 3) (hq : ∀ q : Nat, q < H.size → H1[q]? = H[q]?) (hS : va_S (gF γ) s.heap H1 locs) : Rl γ s u0 (wX σ u) H1 locs (cells + 3) (slots + u) := by
  obtain ⟨g1, g2, g3, g4, g5, g6, g7⟩ := h
  refine ⟨g1, by rw [hz, g2]; rfl, fun a ha => ?_, hS, ?_, ?_, g7⟩
  · by_cases e9 : a < hsz σ
    · have e1 : htg (wX σ u) a = htg σ a := if_pos e9
      rw [e1] at ha
      have hh := g3 a ha
      have e2 : cel (gA γ) (wX σ u) a = cel (gA γ) σ a := by
        have e6 : ∀ ty k, fv ty (wX σ u) a k = fv ty σ a k := fun ty k => rfl
        unfold cel flds elts
        simp only [e1, e6]
        rfl
      rw [e2]
      exact hh.kept (hq a hh.lt)
    · have e1 : htg (wX σ u) a = 999 := if_neg e9
      omega
  · show cells + 3 + s.heap.size = hsz σ + 3
    omega
  · show slots + u + u0 = hus σ + u
    omega
theorem J_baldX {γ : GP} {μ : MP} {φ : FP} {σ : Hp} {pc a : Nat} {l : LVs} {st : List Value} {i : Int32} (hγ : GOK γ) (ht : htg σ a = 102) (hi : i = Int32.ofNat (hln σ a)) (hn : hln σ a ≤ 400) (d : decode μ.1 pc = .ok (.baload, 1)) (hd : 170 ≤ μ.2.2.2.2.1) (hcs : cs st 8) (k : JTE γ μ φ (wX σ 222) pc l st (hsz σ + 2)) : J γ μ φ σ pc l (.int i :: va_rf (some a) :: st) := by
  have k1 := k.1
  have hz : hsz (wX σ 222) = hsz σ + 3 := rfl
  have hu : hus (wX σ 222) = hus σ + 222 := rfl
  rw [hz, hu] at k1
  refine ⟨⟨by omega, by omega⟩, fun p e R s m args below meth c K H locs cells slots ls hr9 hl => ?_⟩
  have hat := hr9.2.2.1 a (by omega)
  rw [cel_a (t := 2) ht, elts_I (by decide) (by decide)] at hat
  have g2 := hr9.2.1
  have g5 := hr9.2.2.2.2.1
  have g6 := hr9.2.2.2.2.2.1
  have hrm := K.rm
  have hs0 := K.sz
  refine vy_baldZ K.x K.b K.k (va_P1 hat) 0 2 rfl (tyl_at _ (by decide)) ?_ d (fun tx htx => ?_)
  · intro hin
    refine hin (Or.inr ?_)
    rw [hi, Int32.toNatClampNeg_ofNat_of_lt (by omega)]
    omega
  have hx := exT_ok (hln σ a) (by omega)
  have hx2 : (exT (hln σ a) == notModelled) = false := index_text_modelled (Int32.ofNat (hln σ a)) (hln σ a)
  have htx' : tx = exT (hln σ a) := by rw [htx, hi]; rfl
  rw [← htx'] at hx hx2
  have hA : ∀ a : Nat, a < (gs γ).heap.size → ¬ gF γ a := fun a h1 h2 => absurd h1 (Nat.not_lt.mpr h2)
  have hq : ∀ a : Nat, a < (gs γ).heap.size → ¬ gF γ a → s.heap[a]? = (gs γ).heap[a]? := fun a h1 _ => K.old a h1
  have hU : vy_Zq Bundle.tN "UNASSIGNED_STACK" Bundle.steD (gF γ) s s.heap := (vy_Zq.moved K.w.alike (vy_Zqof (args := #[Value.ref (gb γ)]) (K.1.1 _ q674) (K.1.1 _ (lw_all_tbl q143)) (vy_isRef (hγ.2.2.2.2.1 (3, "java/lang/Throwable", "UNASSIGNED_STACK", "[Ljava/lang/StackTraceElement;") (by decide)) (by cases gst γ 3 <;> rfl)) hA)).kept hq
  have hN : vy_Zq Bundle.tN "SUPPRESSED_SENTINEL" Bundle.listD (gF γ) s s.heap := (vy_Zq.moved K.w.alike (vy_Zqof (args := #[Value.ref (gb γ)]) (K.1.1 _ q676) (K.1.1 _ (lw_all_tbl q143)) (vy_isRef (hγ.2.2.2.2.1 (4, "java/lang/Throwable", "SUPPRESSED_SENTINEL", "Ljava/util/List;") (by decide)) (by cases gst γ 4 <;> rfl)) hA)).kept hq
  refine vy_vm (nb := 212) (A := gF γ) (names := exN) K.x (by unfold Launch.stackTraces; rw [hγ.2.2.1]; decide) (by decide) (by decide) (by decide) (by decide) (fun w hw => ?_) ex_ot hU hN hr9.2.2.2.1 (by rw [K.ml]; exact hl.1.1) hx2 hx (by omega) ?_ ?_ (by decide) ?_ ?_ K.lk (fun H1 q9 ce z zq oq hS hce hv hcl => ?_)
  · have hB := ex_B w hw
    have hm := ex_in w hw
    cases w with
    | castable a b => exact va_Nw.use (A := args) rfl (va_Nw.warmC K.w (va_Nw.of rfl (K.1.1 _ hm)))
    | declares y => exact va_Nw.use (A := args) rfl (va_Nw.warmD K.w (va_Nw.of rfl (K.1.1 _ hm)))
    | _ => exact word_at K.w (good_of_word hB) (K.1.1 _ hm)
  · rw [hrm]
    show 3 + 4 < μ.2.2.2.2.1
    omega
  · rw [hrm]
    show _ + 10240 ≤ 64 * μ.2.2.2.2.1
    have := hcs
    unfold cs at this
    omega
  · rw [hrm]
    show cells + 3 ≤ hsz φ.2.2 - hsz φ.1
    omega
  · rw [hrm]
    show slots + 222 ≤ hus φ.2.2 - hus φ.1
    omega
  · rw [zq, g2]
    refine k.2 p e R s m args below meth c K H1 locs (cells + 3) (slots + 222) ls (Rl_wX hr9 z oq hS) hl ⟨ce, by rw [← g2, ← zq]; exact hce, hv, ?_⟩
    have hE : thE (wX σ 222) (hsz σ + 2) = exC := if_neg (by
      have : htg (wX σ 222) (hsz σ + 2) = 999 := if_neg (by omega)
      rw [this]; decide)
    rw [hE]
    exact hcl
abbrev mX0_byteX : MP := (cX0_byteAt, "MissCurves", 2, (Option.some FieldType.int), 200, "byteAt", [])
theorem ykX0_byteX : YK yX0_byteAt mX0_byteX 2 := ⟨q735, q128, ⟨by decide, by decide⟩, by decide +kernel, Nat.le_of_ble_eq_true rfl, by decide, rfl, rfl⟩
def X0_byteX (l0 : Option Nat) (l1 : Int32) (σ : Hp) : Option ((Nat ⊕ Int32) × Hp) := l0.bind fun a =>
  if htg σ a = 102 then
    if 0 ≤ l1 ∧ l1.toNatClampNeg < hln σ a then some (.inr (hI σ a l1.toNatClampNeg &&& (255 : Int32)), σ)
    else if l1 = Int32.ofNat (hln σ a) ∧ hln σ a ≤ 400 then some (.inl (hsz σ + 2), wX σ 222) else none
  else none
theorem kb255 : (Int16.ofInt (255)).toInt32 = (255 : Int32) := by decide
theorem sX0_byteX {γ : GP} (hγ : GOK γ) (l0 : Option Nat) (l1 : Int32) (σ : Hp) (q : ((Nat ⊕ Int32) × Hp)) (h : X0_byteX l0 l1 σ = some q) : Rn γ mX0_byteX yX0_byteAt [va_rf l0, .int l1] (σ, fxI q.1, q.2) := by
  refine J_mX hγ ykX0_byteX rfl [(1, va_rf l0), (1, .int l1)] (cats_r (cats_i cats_nil)) (Nat.le_of_ble_eq_true rfl) ?_
  show J γ mX0_byteX _ σ 0 [(0, 1, va_rf l0), (1, 1, .int l1)] []
  unfold X0_byteX at h
  obtain ⟨a, rfl, h2⟩ := some_of_bind h
  clear h
  rcases Classical.em (htg σ a = 102) with ht | ht
  case inr => rw [if_neg ht] at h2; cases h2
  rw [if_pos ht] at h2
  refine J_aload_n (i := 0) 0 1 dX0_byteAt_0 rfl rfl rfl ?_
  refine J_iload_n (i := 1) 1 2 dX0_byteAt_1 rfl rfl rfl ?_
  rcases Classical.em (0 ≤ l1 ∧ l1.toNatClampNeg < hln σ a) with hin | hin
  · rw [if_pos hin] at h2
    refine J_bald (v := hI σ a l1.toNatClampNeg) 3 dX0_byteAt_2 rfl (if_pos ⟨ht, hin⟩) ?_
    refine J_sipush 6 dX0_byteAt_3 rfl (255 : Int32) kb255 ?_
    refine J_iand 7 dX0_byteAt_6 rfl ?_
    exact J_iret rfl dX0_byteAt_7 (retIX h2)
  · rw [if_neg hin] at h2
    rcases Classical.em (l1 = Int32.ofNat (hln σ a) ∧ hln σ a ≤ 400) with hx | hx
    · rw [if_pos hx] at h2
      exact J_baldX hγ ht hx.1 hx.2 dX0_byteAt_2 (Nat.le_of_ble_eq_true rfl) (show cs [] 8 from Nat.zero_le _) (JTE_out rfl (thrI (Option.some.inj h2)))
    · rw [if_neg hx] at h2; cases h2
