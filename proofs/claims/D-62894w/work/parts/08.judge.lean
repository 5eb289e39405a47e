/-! numbers: Java's ints and longs told by integers -/
theorem i32_add (a b : Int) : i32 a + i32 b = i32 (a + b) := (Int32.ofInt_add a b).symm
theorem i32_sub (a b : Int) : i32 a - i32 b = i32 (a - b) := (Int32.ofInt_sub a b).symm
theorem i32_mul (a b : Int) : i32 a * i32 b = i32 (a * b) := (Int32.ofInt_mul a b).symm
theorem i64_add (a b : Int) : i64 a + i64 b = i64 (a + b) := (Int64.ofInt_add a b).symm
theorem i64_sub (a b : Int) : i64 a - i64 b = i64 (a - b) := (Int64.ofInt_sub a b).symm
theorem i64_mul (a b : Int) : i64 a * i64 b = i64 (a * b) := (Int64.ofInt_mul a b).symm
theorem i64_neg (a : Int) : -(i64 a) = i64 (-a) := (Int64.ofInt_neg a).symm
theorem i32_t {a : Int} (h : -2147483648 ≤ a ∧ a < 2147483648) : (i32 a).toInt = a := Int32.toInt_ofInt_of_le (by omega) (by omega)
theorem i64_t {a : Int} (h : -9223372036854775808 ≤ a ∧ a < 9223372036854775808) : (i64 a).toInt = a := Int64.toInt_ofInt_of_le (by omega) (by omega)
theorem i32_of (x : Int32) : ∃ z : Int, x = i32 z ∧ -2147483648 ≤ z ∧ z < 2147483648 := ⟨x.toInt, by simp [i32], by have := x.le_toInt; omega, by have := x.toInt_lt; omega⟩
theorem i64_of (x : Int64) : ∃ z : Int, x = i64 z ∧ -9223372036854775808 ≤ z ∧ z < 9223372036854775808 := ⟨x.toInt, by simp [i64], by have := x.le_toInt; omega, by have := x.toInt_lt; omega⟩
theorem i32_z : i32 0 = 0 := rfl
theorem i32_ne {y : Int} (h : 0 < y ∧ y < 2147483648) : ¬ i32 y = 0 := fun z => by
  have := congrArg Int32.toInt z
  rw [i32_t (by omega)] at this
  have h0 : (0 : Int32).toInt = 0 := rfl
  omega
theorem i64_ne {y : Int} (h : 0 < y ∧ y < 9223372036854775808) : ¬ i64 y = 0 := fun z => by
  have := congrArg Int64.toInt z
  rw [i64_t (by omega)] at this
  have h0 : (0 : Int64).toInt = 0 := rfl
  omega
section NUM
variable {x y : Int}
theorem ib_eq (hx : -2147483648 ≤ x ∧ x < 2147483648) (hy : -2147483648 ≤ y ∧ y < 2147483648) : i32 x = i32 y ↔ x = y := by
  rw [← Int32.toInt_inj, i32_t hx, i32_t hy]
theorem ib_ne (hx : -2147483648 ≤ x ∧ x < 2147483648) (hy : -2147483648 ≤ y ∧ y < 2147483648) : (¬ i32 x = i32 y) ↔ x ≠ y := not_congr (ib_eq hx hy)
theorem ib_lt (hx : -2147483648 ≤ x ∧ x < 2147483648) (hy : -2147483648 ≤ y ∧ y < 2147483648) : i32 x < i32 y ↔ x < y := by
  rw [Int32.lt_iff_toInt_lt, i32_t hx, i32_t hy]
theorem ib_le (hx : -2147483648 ≤ x ∧ x < 2147483648) (hy : -2147483648 ≤ y ∧ y < 2147483648) : i32 x ≤ i32 y ↔ x ≤ y := by
  rw [Int32.le_iff_toInt_le, i32_t hx, i32_t hy]
theorem ib_ge (hx : -2147483648 ≤ x ∧ x < 2147483648) (hy : -2147483648 ≤ y ∧ y < 2147483648) : i32 y ≤ i32 x ↔ x ≥ y := ib_le hy hx
theorem ib_gt (hx : -2147483648 ≤ x ∧ x < 2147483648) (hy : -2147483648 ≤ y ∧ y < 2147483648) : i32 y < i32 x ↔ x > y := ib_lt hy hx
theorem iz_eq (hx : -2147483648 ≤ x ∧ x < 2147483648) : i32 x = 0 ↔ x = 0 := ib_eq (y := 0) hx (by omega)
theorem iz_ne (hx : -2147483648 ≤ x ∧ x < 2147483648) : (¬ i32 x = 0) ↔ x ≠ 0 := ib_ne (y := 0) hx (by omega)
theorem iz_lt (hx : -2147483648 ≤ x ∧ x < 2147483648) : i32 x < 0 ↔ x < 0 := ib_lt (y := 0) hx (by omega)
theorem iz_le (hx : -2147483648 ≤ x ∧ x < 2147483648) : i32 x ≤ 0 ↔ x ≤ 0 := ib_le (y := 0) hx (by omega)
theorem iz_ge (hx : -2147483648 ≤ x ∧ x < 2147483648) : 0 ≤ i32 x ↔ x ≥ 0 := ib_ge (y := 0) hx (by omega)
theorem iz_gt (hx : -2147483648 ≤ x ∧ x < 2147483648) : 0 < i32 x ↔ x > 0 := ib_gt (y := 0) hx (by omega)
theorem i32_div (hx : 0 ≤ x ∧ x < 2147483648) (hy : 0 < y ∧ y < 2147483648) : i32 x / i32 y = i32 (x / y) := by
  rw [← Int.tdiv_eq_ediv_of_nonneg hx.1]
  exact (Int32.ofInt_tdiv (a := x) (b := y) (by show (-2147483648 : Int) ≤ x; omega) (by show x ≤ (2147483647 : Int); omega) (by show (-2147483648 : Int) ≤ y; omega) (by show y ≤ (2147483647 : Int); omega)).symm
theorem i64_div (hx : 0 ≤ x ∧ x < 9223372036854775808) (hy : 0 < y ∧ y < 9223372036854775808) : i64 x / i64 y = i64 (x / y) := by
  rw [← Int.tdiv_eq_ediv_of_nonneg hx.1]
  exact (Int64.ofInt_tdiv (a := x) (b := y) (by show (-9223372036854775808 : Int) ≤ x; omega) (by show x ≤ (9223372036854775807 : Int); omega) (by show (-9223372036854775808 : Int) ≤ y; omega) (by show y ≤ (9223372036854775807 : Int); omega)).symm
theorem i32_rem (hx : 0 ≤ x ∧ x < 2147483648) (hy : 0 < y ∧ y < 2147483648) : i32 x - i32 x / i32 y * i32 y = i32 (x % y) := by
  rw [i32_div hx hy, i32_mul, i32_sub, Int.emod_def, Int.mul_comm]
theorem i64_rem (hx : 0 ≤ x ∧ x < 9223372036854775808) (hy : 0 < y ∧ y < 9223372036854775808) : i64 x - i64 x / i64 y * i64 y = i64 (x % y) := by
  rw [i64_div hx hy, i64_mul, i64_sub, Int.emod_def, Int.mul_comm]
theorem i64_tmod (hx : -4611686018427387904 ≤ x ∧ x < 4611686018427387904) (hy : 0 < y ∧ y < 4611686018427387904) : i64 x - i64 x / i64 y * i64 y = i64 (x.tmod y) := by
  have h : i64 x / i64 y = i64 (x.tdiv y) := (Int64.ofInt_tdiv (a := x) (b := y) (by show (-9223372036854775808 : Int) ≤ x; omega) (by show x ≤ (9223372036854775807 : Int); omega) (by show (-9223372036854775808 : Int) ≤ y; omega) (by show y ≤ (9223372036854775807 : Int); omega)).symm
  rw [h, i64_mul, i64_sub, Int.tmod_def, Int.mul_comm]
theorem i32_l (hx : -2147483648 ≤ x ∧ x < 2147483648) : (i32 x).toInt64 = i64 x := by
  rw [← Int64.toInt_inj, Int32.toInt_toInt64, i32_t hx, i64_t (by omega)]
theorem i64_i (x : Int) : (i64 x).toInt32 = i32 x := by simp [i64, i32]
theorem i8_i32 {n : Int} (h : -128 ≤ n ∧ n < 128) : (Int8.ofInt n).toInt32 = i32 n := by
  rw [← Int32.toInt_inj, Int8.toInt_toInt32, i32_t (by omega), Int8.toInt_ofInt_of_le (by omega) (by omega)]
theorem i16_i32 {n : Int} (h : -32768 ≤ n ∧ n < 32768) : (Int16.ofInt n).toInt32 = i32 n := by
  rw [← Int32.toInt_inj, Int16.toInt_toInt32, i32_t (by omega), Int16.toInt_ofInt_of_le (by omega) (by omega)]
theorem i32_b (h : -128 ≤ x ∧ x < 128) : (i32 x).toInt8.toInt32 = i32 x := by
  have e : (i32 x).toInt8 = Int8.ofInt x := by simp [i32]
  rw [e, i8_i32 h]
def icmp (x y : Int) : Int := if y < x then 1 else if x = y then 0 else -1
theorem i64_cmp (hx : -9223372036854775808 ≤ x ∧ x < 9223372036854775808) (hy : -9223372036854775808 ≤ y ∧ y < 9223372036854775808) : lg_cmp (i64 x) (i64 y) = i32 (icmp x y) := by
  have h1 : i64 y < i64 x ↔ y < x := by rw [Int64.lt_iff_toInt_lt, i64_t hx, i64_t hy]
  have h2 : i64 x = i64 y ↔ x = y := by rw [← Int64.toInt_inj, i64_t hx, i64_t hy]
  unfold lg_cmp icmp
  by_cases a : y < x
  · rw [if_pos (h1.mpr a), if_pos a]; rfl
  · rw [if_neg (fun z => a (h1.mp z)), if_neg a]
    by_cases b : x = y
    · rw [if_pos (h2.mpr b), if_pos b]; rfl
    · rw [if_neg (fun z => b (h2.mp z)), if_neg b]; rfl
theorem icmp_r (x y : Int) : -2147483648 ≤ icmp x y ∧ icmp x y < 2147483648 := by
  unfold icmp; split <;> (try split) <;> omega
theorem icmp_lt0 (x y : Int) : icmp x y < 0 ↔ x < y := by
  unfold icmp; split <;> (try split) <;> omega
theorem icmp_gt0 (x y : Int) : icmp x y > 0 ↔ y < x := by
  unfold icmp; split <;> (try split) <;> omega
theorem icmp_ge0 (x y : Int) : icmp x y ≥ 0 ↔ y ≤ x := by
  unfold icmp; split <;> (try split) <;> omega
theorem icmp_le0 (x y : Int) : icmp x y ≤ 0 ↔ x ≤ y := by
  unfold icmp; split <;> (try split) <;> omega
theorem icmp_eq0 (x y : Int) : icmp x y = 0 ↔ x = y := by
  unfold icmp; split <;> (try split) <;> omega
end NUM
/-! locals by place -/
def lvo (la : Array Slot) (nL : Nat) (ls : List (Option Value)) : Prop := la.size = nL ∧ lv_wf la ∧ ∀ (i : Nat) (v : Value), ls[i]? = some (some v) → la[i]? = some (.val v)
def lvp (ls : List (Option Value)) : List (Nat × Value) := (List.range ls.length).filterMap fun i => (ls[i]?.join).map fun v => (i, v)
theorem lvp_mem {ls : List (Option Value)} {i : Nat} {v : Value} (h : ls[i]? = some (some v)) : (i, v) ∈ lvp ls :=
  List.mem_filterMap.mpr ⟨i, List.mem_range.mpr (List.getElem?_eq_some_iff.mp h).1, by rw [h]; rfl⟩
theorem lvp_of {ls : List (Option Value)} {q : Nat × Value} (h : q ∈ lvp ls) : ls[q.1]? = some (some q.2) := by
  obtain ⟨i, -, h2⟩ := List.mem_filterMap.mp h
  cases hi : ls[i]? with
  | none => rw [hi] at h2; cases h2
  | some x =>
    cases x with
    | none => rw [hi] at h2; cases h2
    | some v =>
      rw [hi] at h2
      cases h2
      exact hi
theorem lvo.has {la : Array Slot} {nL : Nat} {ls : List (Option Value)} (h : lvo la nL ls) : lv_has la nL (lvp ls) := ⟨h.1, h.2.1, fun q hq => h.2.2 q.1 q.2 (lvp_of hq)⟩
/-- nothing of two words stands just before the place -/
def okp (ls : List (Option Value)) (i : Nat) : Bool := match i with
  | 0 => true
  | j + 1 => match ls[j]? with
    | some (some v) => v.category != 2
    | _ => true
theorem okp_of {ls : List (Option Value)} {i j : Nat} {v : Value} (h : okp ls i = true) (hj : j + 1 = i) (hv : ls[j]? = some (some v)) : v.category ≠ 2 := by
  subst hj
  simp only [okp, hv, bne_iff_ne] at h
  exact h
theorem lvo.st1 {la : Array Slot} {nL i : Nat} {v : Value} {ls : List (Option Value)} (h : lv_has la nL ((i, v) :: (lvp ls).filter (fun q => !(q.1 == i) && !(q.1 + 1 == i && q.2.category == 2)))) (hp : okp ls i = true) : lvo la nL (ls.set i (some v)) := by
  refine ⟨h.1, h.2.1, fun j u hu => ?_⟩
  by_cases hj : j = i
  · subst hj
    have hl : j < ls.length := by
      have := (List.getElem?_eq_some_iff.mp hu).1
      simpa using this
    rw [List.getElem?_set_self hl] at hu
    cases hu
    exact h.2.2 _ List.mem_cons_self
  · rw [List.getElem?_set_ne (Ne.symm hj)] at hu
    refine h.2.2 (j, u) (List.mem_cons_of_mem _ (List.mem_filter.mpr ⟨lvp_mem hu, ?_⟩))
    simp only [Bool.and_eq_true, Bool.not_eq_true', Bool.and_eq_false_iff, beq_eq_false_iff_ne]
    refine ⟨hj, ?_⟩
    by_cases h1 : j + 1 = i
    · exact Or.inr (okp_of hp h1 hu)
    · exact Or.inl h1
theorem lvo.st2 {la : Array Slot} {nL i : Nat} {v : Value} {ls : List (Option Value)} (h : lv_has la nL ((i, v) :: (lvp ls).filter (fun q => !(q.1 == i) && (!(q.1 == i + 1) && !(q.1 + 1 == i && q.2.category == 2))))) (hp : okp ls i = true) : lvo la nL ((ls.set i (some v)).set (i + 1) none) := by
  refine ⟨h.1, h.2.1, fun j u hu => ?_⟩
  by_cases hj1 : j = i + 1
  · subst hj1
    have hl : i + 1 < (ls.set i (some v)).length := by
      have := (List.getElem?_eq_some_iff.mp hu).1
      simpa using this
    rw [List.getElem?_set_self hl] at hu
    cases hu
  · rw [List.getElem?_set_ne (Ne.symm hj1)] at hu
    by_cases hj : j = i
    · subst hj
      have hl : j < ls.length := by
        have := (List.getElem?_eq_some_iff.mp hu).1
        simpa using this
      rw [List.getElem?_set_self hl] at hu
      cases hu
      exact h.2.2 _ List.mem_cons_self
    · rw [List.getElem?_set_ne (Ne.symm hj)] at hu
      refine h.2.2 (j, u) (List.mem_cons_of_mem _ (List.mem_filter.mpr ⟨lvp_mem hu, ?_⟩))
      simp only [Bool.and_eq_true, Bool.not_eq_true', Bool.and_eq_false_iff, beq_eq_false_iff_ne]
      refine ⟨hj, hj1, ?_⟩
      by_cases h1 : j + 1 = i
      · exact Or.inr (okp_of hp h1 hu)
      · exact Or.inl h1
def ent : Nat → List Value → List (Option Value)
  | n, [] => List.replicate n none
  | n, v :: t => if v.category = 2 then some v :: none :: ent (n - 2) t else some v :: ent (n - 1) t
theorem ent_args : ∀ (av : List Value) (n k i : Nat) (v : Value), (ent n av)[i]? = some (some v) → (k + i, v) ∈ lv_args k av
  | [], n, k, i, v, h => by
    simp only [ent, List.getElem?_replicate] at h
    split at h <;> cases h
  | x :: t, n, k, i, v, h => by
    simp only [ent] at h
    simp only [lv_args]
    by_cases hc : x.category = 2
    · rw [if_pos hc] at h ⊢
      match i, h with
      | 0, h => cases h; exact List.mem_cons_self
      | 1, h => cases h
      | i + 2, h =>
        have := ent_args t (n - 2) (k + 2) i v h
        rw [show k + (i + 2) = k + 2 + i by omega]
        exact List.mem_cons_of_mem _ this
    · rw [if_neg hc] at h ⊢
      match i, h with
      | 0, h => cases h; exact List.mem_cons_self
      | i + 1, h =>
        have := ent_args t (n - 1) (k + 1) i v h
        rw [show k + (i + 1) = k + 1 + i by omega]
        exact List.mem_cons_of_mem _ this
/-! the judgement -/
abbrev Kt : Type := Program × Env × Room × State × MethodId × Array Value × List Frame × Method × Code
def Ok (G : Gt) (K : Kt) (own : String) (cc : ByteArray) (nL : Nat) (ret : Option FieldType) (tb : List ExceptionTableEntry) : Prop :=
  K.1.tables.exec = Jvm.exec ∧ K.2.2.2.2.2.2.2.2.code = cc ∧ K.2.2.2.2.2.2.2.2.maxLocals = nL ∧ K.2.2.2.1.vm.findClass own = some K.2.2.2.2.1.cls ∧ gf G K.2.2.2.1 ∧ K.2.2.2.2.2.2.2.1.sig.returnType = ret ∧ K.2.2.2.2.2.2.2.1.locks = false ∧ K.2.2.2.2.2.2.2.2.exceptionTable.toList = tb
/-- from pc, with these locals and this stack, in the world w laid out by ad: the machine comes to a state with Q; cs cells of ss slots have been made so far -/
def V (G : Gt) (K : Kt) (nL : Nat) (Q : State → Prop) (cs ss pc : Nat) (ls : List (Option Value)) (st : List Value) (ad : Ix → Nat) (w : Wt) : Prop :=
  ∀ (H : Heap) (locs : List Loc) (la : Array Slot), hv G ad w H → va_S (gA G) K.2.2.2.1.heap H locs → lvo la nL ls →
    W K.1 G.1 K.2.1 K.2.2.1 K.2.2.2.1 K.2.2.2.2.1 K.2.2.2.2.2.1 K.2.2.2.2.2.2.1 K.2.2.2.2.2.2.2.1 K.2.2.2.2.2.2.2.2 H locs cs ss Q (F0 K.2.2.2.2.1 pc la st)
abbrev Pst : Type := Option Value → (Ix → Nat) → Wt → Prop
abbrev Tst : Type := String → (Ix → Nat) → Wt → Prop
/-- how a method ends: with a value and a world, or with an exception of a class and a world -/
def Oc (G : Gt) (post : Pst) (thr : Tst) (o : Outcome) (t : State) : Prop :=
  ∃ (ad : Ix → Nat) (w : Wt), hv G ad w t.heap ∧ ((∃ v, o = .returned v ∧ post v ad w) ∨ ∃ (x : Nat) (C : String) (cell : Cell), o = .threw x ∧ t.heap[x]? = some cell ∧ cell.vm = .none ∧ t.vm.findClass C = some cell.cls ∧ thr C ad w)
def Fe (G : Gt) (s t : State) (mc ms : Nat) : Prop :=
  s.WarmedH t.vm ∧ s.heap.size ≤ t.heap.size ∧ (∀ q : Nat, q < s.heap.size → ¬ gA G q → t.heap[q]? = s.heap[q]?) ∧ ∃ L : List Loc, s.sameButNew ({ t with vm := s.vm } : State) L mc ms ∧ ∀ q ∈ L, gA G q.base
def QE (G : Gt) (K : Kt) (post : Pst) (thr : Tst) (mc ms : Nat) : State → Prop := fun t => ∃ o, t.status = .running ∧ Ended t K.2.2.2.2.2.2.1 o ∧ Oc G post thr o t ∧ Fe G K.2.2.2.1 t mc ms
def rmL (d mc ms : Nat) : Room := { frames := d, cells := mc, slots := ms, locals := 34 * d }
def noT : Tst := fun _ _ _ => False
/-- A CONTRACT: y, called with av in the world w, ends as post and thr say; d frames, mc cells of ms slots are enough -/
def Mt (G : Gt) (y : MethodName) (cw : Cond) (d mc ms : Nat) (av : List Value) (ad : Ix → Nat) (w : Wt) (post : Pst) (thr : Tst) : Prop :=
  MetFree G.1 y (headSpec [cw] (rmL d mc ms)) (fun a U => a = av.toArray ∧ gf G U ∧ hv G ad w U.heap) (fun _ _ _ _ _ => True) (fun _ st o t => Oc G post thr o t ∧ Fe G st t mc ms)
theorem gO.moved {s U : State} (hvm : s.vm.Alike U.vm) (h : gO s) : gO U := ⟨fun _ => va_AO.use (va_AO.moved hvm (va_AO.of (h.1 #[]))), fun _ => va_AO.use (va_AO.moved hvm (va_AO.of (h.2 #[])))⟩
theorem gN.moved {s U : State} (hvm : s.vm.Alike U.vm) (h : gN s) : gN U := by
  have key : ∀ {C T : String}, va_Nc C T s → va_Nc C T U := by
    intro C T h
    obtain ⟨c, t, h1, h2, h3⟩ := h
    exact ⟨c, t, by rw [hvm.findClass]; exact h1, by rw [hvm.findClass]; exact h2, by rw [hvm.assignable]; exact h3⟩
  exact ⟨key h.1, key h.2.1, key h.2.2⟩
theorem gM.moved {G : Gt} {s U : State} (hvm : s.vm.Alike U.vm) (h : gM G s) : gM G U := fun a => over_moved hvm (h a)
theorem gf.moved {G : Gt} {s U : State} {locs : List Loc} (h : gf G s) (hW : s.WarmedH U.vm) (hS : va_S (gA G) s.heap U.heap locs) (hn : nSt G.2.2.2.2 U.heap) : gf G U := by
  obtain ⟨h1, h2, h3, h4, h5, h6, h7, h8, h9, h10, h11⟩ := h
  exact ⟨h1.moved hW, va_K.moved hW.alike h2, Nat.le_trans h3 hS.1, (va_En.moved hW.alike (va_En.kept h4 (fun a ha hq => hS.2.1 a ha hq))), h5.moved hW (sK.of h8 hS), h6.moved hW, h7.moved hW.alike, hn, h9.moved hW.alike, h10, h11.moved hW.alike⟩
theorem Mt.body {G : Gt} {y : MethodName} {cw : Cond} {d mc ms nL : Nat} {cc : ByteArray} {ret : Option FieldType} {tb : List ExceptionTableEntry} {av : List Value} {ls : List (Option Value)} {ad : Ix → Nat} {w : Wt} {post : Pst} {thr : Tst} (hy : plainName y.cls = true)
    (hcw : ∀ args (s : State) m, cw.before args s = true → s.methodNamed? y = some m → ∃ meth c, s.vm.method? m = some meth ∧ meth.code = some c ∧ c.code = cc ∧ c.maxLocals = nL ∧ meth.sig.returnType = ret ∧ meth.locks = false ∧ c.exceptionTable.toList = tb)
    (hL : Nat.ble (lg_sl av).length nL = true) (hl : ent nL av = ls)
    (body : ∀ K : Kt, Ok G K y.cls cc nL ret tb → K.2.2.1 = rmL d mc ms → K.2.2.2.2.2.2.2.1.name = y.name → V G K nL (QE G K post thr mc ms) 0 0 0 ls [] ad w) : Mt G y cw d mc ms av ad w post thr := by
  refine MetFree.of_bodyS (code := cc) (maxLocals := nL) (ret := ret) hy ?_ ?_
  · intro args s m h hn
    obtain ⟨meth, c, h1, h2, h3, h4, h5, h6, -⟩ := hcw args s m (atoms_spec (ws := [cw]) h _ List.mem_cons_self) hn
    exact ⟨meth, c, h1, h2, h3, h4, h5, h6⟩
  · intro p e s m args below meth c s₁ B hml hP _
    obtain ⟨rfl, hg, hh⟩ := hP
    obtain ⟨meth', c', h1, h2, h3, h4, h5, h6, h7⟩ := hcw _ s m (atoms_spec (ws := [cw]) B.pre _ List.mem_cons_self) B.named
    cases B.method.symm.trans h1
    have X₀ := Stand.of_body B
    cases X₀.code.symm.trans h2
    have hh0 : s₁.heap = s.heap := by rw [B.state]; rfl
    have hle := lv_entry av (n := nL) (Nat.le_of_ble_eq_true hL)
    have hlo : lvo ((lg_sl av ++ List.replicate (nL - (lg_sl av).length) Slot.unset).toArray) nL ls := ⟨hle.1, hle.2.1, fun i v hi => by
      subst hl
      have h9 := hle.2.2 (i, v) (by have := ent_args av nL 0 i v hi; rwa [Nat.zero_add] at this)
      exact h9⟩
    have hV := body (p, e, rmL d mc ms, s, m, av.toArray, below, meth, c) ⟨B.exec, B.bytes, hml, findClass_of_methodNamed B.named, hg, B.returns, B.notSynchronized, h7⟩ rfl (name_of_methodNamed B.named B.method).1 s.heap [] _ hh va_S.rf hlo
    rw [lg_entry_eq]
    obtain ⟨t, a1, o, b1, b2, b3⟩ := hV s₁ hh0 X₀
    exact ⟨t, o, a1, b1, b2, b3⟩
theorem Mt.of {G : Gt} {y : MethodName} {d mc ms nL : Nat} {cc : ByteArray} {ret : Option FieldType} {av : List Value} {ls : List (Option Value)} {ad : Ix → Nat} {w : Wt} {post : Pst} {thr : Tst} (hy : plainName y.cls = true)
    (hL : Nat.ble (lg_sl av).length nL = true) (hl : ent nL av = ls)
    (body : ∀ K : Kt, Ok G K y.cls cc nL ret [] → K.2.2.1 = rmL d mc ms → K.2.2.2.2.2.2.2.1.name = y.name → V G K nL (QE G K post thr mc ms) 0 0 0 ls [] ad w) : Mt G y (.code y cc nL ret) d mc ms av ad w post thr := by
  refine Mt.body hy (fun args s m h hn => ?_) hL hl body
  obtain ⟨meth, c, h1, h2, h3, h4, h5, h6, h7, -⟩ := Cond.code_spec hn h
  refine ⟨meth, c, h1, h2, h3, h4, h5, h6, ?_⟩
  have h0 : c.exceptionTable.size = 0 := by simpa [Array.isEmpty] using h7
  exact List.eq_nil_of_length_eq_zero (by simpa using h0)
theorem Mt.ofT {G : Gt} {y : MethodName} {d mc ms nL : Nat} {cc : ByteArray} {ret : Option FieldType} {hh : List (Nat × Nat × Nat × Nat)} {av : List Value} {ls : List (Option Value)} {ad : Ix → Nat} {w : Wt} {post : Pst} {thr : Tst} (hy : plainName y.cls = true)
    (hL : Nat.ble (lg_sl av).length nL = true) (hl : ent nL av = ls)
    (body : ∀ K : Kt, Ok G K y.cls cc nL ret (tableOf hh) → K.2.2.1 = rmL d mc ms → K.2.2.2.2.2.2.2.1.name = y.name → V G K nL (QE G K post thr mc ms) 0 0 0 ls [] ad w) : Mt G y (.codeWith y cc nL ret hh) d mc ms av ad w post thr := by
  refine Mt.body hy (fun args s m h hn => ?_) hL hl body
  obtain ⟨m', meth, c, hn', h1, h2, h3, h4, h7, h5, h6, -⟩ := Cond.codeWith_spec h
  cases hn.symm.trans hn'
  exact ⟨meth, c, h1, h2, h3, h4, h5, h6, by rw [← h7, table_eq]⟩
