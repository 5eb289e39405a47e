/-! constructors -/
def upR {α : Type} (f : Ix → α) (fam n : Nat) (g : Nat → α) : Ix → α := fun j => cond (Nat.beq j.1 fam && Nat.blt j.2 n) (g j.2) (f j)
theorem upR_s {α : Type} {f : Ix → α} {fam n k : Nat} {g : Nat → α} (h : k < n) : upR f fam n g (fam, k) = g k := by
  have : (Nat.beq fam fam && Nat.blt k n) = true := by rw [Nat.blt_eq.mpr h, Bool.and_true]; exact Nat.beq_eq.mpr rfl
  simp only [upR, this, cond_true]
theorem upR_n {α : Type} {f : Ix → α} {fam n : Nat} {j : Ix} {g : Nat → α} (h : j.1 ≠ fam) : upR f fam n g j = f j := by
  have : Nat.beq j.1 fam = false := nbf h
  simp only [upR, this, Bool.false_and, cond_false]
theorem upR_c {α : Type} (f : Ix → α) (fam n : Nat) (g : Nat → α) (j : Ix) : (j.1 = fam ∧ j.2 < n ∧ upR f fam n g j = g j.2) ∨ (¬ (j.1 = fam ∧ j.2 < n) ∧ upR f fam n g j = f j) := by
  by_cases h : j.1 = fam ∧ j.2 < n
  · left
    obtain ⟨a, b⟩ := j
    obtain ⟨h1, h2⟩ := h
    simp only at h1 h2
    subst h1
    exact ⟨rfl, h2, upR_s h2⟩
  · right
    refine ⟨h, ?_⟩
    have : (Nat.beq j.1 fam && Nat.blt j.2 n) = false := by
      cases hb : (Nat.beq j.1 fam && Nat.blt j.2 n) with
      | false => rfl
      | true =>
        simp only [Bool.and_eq_true, Nat.blt_eq] at hb
        exact absurd ⟨Nat.eq_of_beq_eq_true hb.1, hb.2⟩ h
    simp only [upR, this, cond_false]
/-- the rows of a table of bytes, one after another -/
def stg (p : Program) (l : Launch) (e : Env) (R : Room) (s : State) (m : MethodId) (args : Array Value) (below : List Frame) (meth : Method) (c : Code) (T : State) (locs : List Loc) (cells slots : Nat) (vm₁ : Vm) (cA cB : ClassId) (i : Nat) (U : State) : Prop :=
  Stand p l e R s m args below meth c U (locs ++ (List.range i).map fun j => ⟨T.heap.size, j⟩) (cells + 1 + i) (slots + 200 + 11 * i) ∧ U.heap.size = T.heap.size + 1 + i ∧ U.heap[T.heap.size]? = some (arrV cA 200 (fun k => if k < i then .ref (T.heap.size + 1 + k) else .null)) ∧ (∀ a, a < T.heap.size → U.heap[a]? = T.heap[a]?) ∧ (∀ j, j < i → U.heap[T.heap.size + 1 + j]? = some (arrV cB 11 (fun _ => .int 0))) ∧ U.vm = vm₁
theorem stg.z {p : Program} {l : Launch} {e : Env} {R : Room} {s : State} {m : MethodId} {args : Array Value} {below : List Frame} {meth : Method} {c : Code} {T : State} {locs : List Loc} {cells slots : Nat} {vm₁ : Vm} {cA cB : ClassId} (X : Stand p l e R s m args below meth c (T.setVm vm₁) locs cells slots) : stg p l e R s m args below meth c T locs cells slots vm₁ cA cB 0 ((T.setVm vm₁).pushCell (arrV cA 200 (fun _ => .null))) := by
  refine ⟨?_, ?_, ?_, fun a ha => ?_, fun j hj => by omega, rfl⟩
  · have h := X.pushed (arrV cA 200 (fun _ => .null))
    rw [arrV_size] at h
    rw [List.range_zero, List.map_nil, List.append_nil]
    exact h
  · show (T.heap.push _).size = _
    rw [Array.size_push]
  · show (T.heap.push _)[T.heap.size]? = _
    rw [Array.getElem?_push_size]
    exact congrArg some (arrV_ext (fun k _ => by rw [if_neg (by omega)]))
  · show (T.heap.push _)[a]? = _
    rw [Array.getElem?_push, if_neg (by omega)]
theorem stg.s {p : Program} {l : Launch} {e : Env} {R : Room} {s : State} {m : MethodId} {args : Array Value} {below : List Frame} {meth : Method} {c : Code} {T : State} {locs : List Loc} {cells slots : Nat} {vm₁ : Vm} {cA cB : ClassId} {i : Nat} {U : State} (h : stg p l e R s m args below meth c T locs cells slots vm₁ cA cB i U) (hi : i < 200) : stg p l e R s m args below meth c T locs cells slots vm₁ cA cB (i + 1) ((U.pushCell (arrV cB 11 (fun _ => .int 0))).setCell T.heap.size ((arrV cA 200 (fun k => if k < i then .ref (T.heap.size + 1 + k) else .null)).setSlot i (.ref U.heap.size))) := by
  obtain ⟨h1, h2, h3, h4, h5, h6⟩ := h
  have hp : ∀ q, (U.pushCell (arrV cB 11 (fun _ => .int 0))).heap[q]? = if q = U.heap.size then some (arrV cB 11 (fun _ => .int 0)) else U.heap[q]? := fun q => by
    show (U.heap.push _)[q]? = _
    rw [Array.getElem?_push]
  have hc : (U.pushCell (arrV cB 11 (fun _ => .int 0))).heap[T.heap.size]? = some (arrV cA 200 (fun k => if k < i then .ref (T.heap.size + 1 + k) else .null)) := by
    rw [hp, if_neg (by omega)]; exact h3
  have hset : ∀ (cell : Cell) q, ((U.pushCell (arrV cB 11 (fun _ => .int 0))).setCell T.heap.size cell).heap[q]? = if q = T.heap.size then some cell else (U.pushCell (arrV cB 11 (fun _ => .int 0))).heap[q]? := fun cell q => by
    by_cases e : q = T.heap.size
    · rw [if_pos e, e]; exact State.heap_setCell_self hc
    · rw [if_neg e]; exact State.heap_setCell_other (fun z => e z.symm)
  refine ⟨?_, ?_, ?_, fun a ha => ?_, fun j hj => ?_, h6⟩
  · have h := (h1.pushed (arrV cB 11 (fun _ => .int 0))).stored hc i (.ref U.heap.size)
    rw [arrV_size] at h
    rw [List.range_succ, List.map_append, List.map_singleton, ← List.append_assoc, show cells + 1 + (i + 1) = cells + 1 + i + 1 by omega, show slots + 200 + 11 * (i + 1) = slots + 200 + 11 * i + 11 by omega]
    exact h
  · show ((U.heap.push _).setIfInBounds _ _).size = _
    rw [Array.size_setIfInBounds, Array.size_push]
    omega
  · rw [hset, if_pos rfl, arrV_store]
    refine congrArg some (arrV_ext (fun k _ => ?_))
    unfold updV
    by_cases e : k = i
    · rw [if_pos e, if_pos (by omega), h2, e]
    · rw [if_neg e]
      by_cases e2 : k < i
      · show (if k < i then Value.ref (T.heap.size + 1 + k) else .null) = _
        rw [if_pos e2, if_pos (by omega)]
      · show (if k < i then Value.ref (T.heap.size + 1 + k) else .null) = _
        rw [if_neg e2, if_neg (by omega)]
  · rw [hset, if_neg (by omega), hp, if_neg (by omega)]; exact h4 a ha
  · rw [hset, if_neg (by omega), hp]
    by_cases e : j = i
    · rw [if_pos (by omega)]
    · rw [if_neg (by omega)]; exact h5 j (by omega)
def rowU (S : State) (cA cB : ClassId) : Nat → State
  | 0 => S.pushCell (arrV cA 200 (fun _ => .null))
  | i + 1 => ((rowU S cA cB i).pushCell (arrV cB 11 (fun _ => .int 0))).setCell S.heap.size ((arrV cA 200 (fun k => if k < i then .ref (S.heap.size + 1 + k) else .null)).setSlot i (.ref (rowU S cA cB i).heap.size))
theorem stg.all {p : Program} {l : Launch} {e : Env} {R : Room} {s : State} {m : MethodId} {args : Array Value} {below : List Frame} {meth : Method} {c : Code} {T : State} {locs : List Loc} {cells slots : Nat} {vm₁ : Vm} {cA cB : ClassId} (X : Stand p l e R s m args below meth c (T.setVm vm₁) locs cells slots) : ∀ i, i ≤ 200 → stg p l e R s m args below meth c T locs cells slots vm₁ cA cB i (rowU (T.setVm vm₁) cA cB i)
  | 0, _ => stg.z X
  | i + 1, h => (stg.all X i (by omega)).s (by omega)
theorem fits_ref {S : State} {cA cB : ClassId} {kA : Class} {x a : Nat} (h : S.vm.classes[cA]? = some kA) (h2 : kA.kind = .array cB (.array .byte)) : S.fitsSlot cA .none x (.ref a) = true := by
  simp [State.fitsSlot, State.slotType?, h, h2, fits]
theorem ge0 {x : Int32} (h : ¬ x < 0) : ([x].find? (· < 0)) = none := by simp [h]
theorem r_multi {G : Gt} {K : Kt} {own : String} {cc : ByteArray} {nL : Nat} {ret : Option FieldType} {tb : List ExceptionTableEntry} {Q : State → Prop} {cs ss pc q idx : Nat} {ls : List (Option Value)} {st : List Value} {ad : Ix → Nat} {w : Wt} (hk : Ok G K own cc nL ret tb) (hm : Cond.classLink own idx "[[B" ∈ tw) (hd : decode cc pc = .ok (.multianewarray idx 2, 4) ∧ pc + 4 = q) (h2 : w (2, 0) = none) (h3 : ∀ k, w (3, k) = none) (hcells : cs + 201 ≤ K.2.2.1.cells) (hslots : ss + 2400 ≤ K.2.2.1.slots)
    (kk : ∀ a : Nat, V G K nL Q (cs + 201) (ss + 2400) q ls (.ref a :: st) (upR (up ad (2, 0) a) 3 200 (fun k => a + 1 + k)) (upR (up w (2, 0) (some (cdf (upR (up ad (2, 0) a) 3 200 (fun k => a + 1 + k))))) 3 200 (fun _ => some (.inr (3, 11, fun _ => .int 0))))) : V G K nL Q cs ss pc ls (.int (i32 11) :: .int (i32 200) :: st) ad w := by
  obtain ⟨hd, rfl⟩ := hd
  intro H locs la g1 g2 g3 T hT X
  have hpl : K.2.1.platform.magicAccessors = ({} : Platform).magicAccessors := by rw [X.admits.platform]
  obtain ⟨comp, cA, kA, hcomp, -, hkA, hkindA, hnameA⟩ := arrayOverA_spec (hk.2.2.2.2.1.2.2.2.2.2.2.2.2.2.2 #[])
  obtain ⟨comp', kC, c3, hcomp', hkC, hkindC⟩ := Cond.arrayClass_spec (hk.2.2.2.2.1.2.2.2.2.2.1 3 (by decide) #[])
  obtain ⟨c0, hfc0, hcl⟩ := Cond.classLink_spec hk.2.2.2.1 (hk.ts _ hm) K.2.1.platform hpl
  have hcA : cA = G.2.2.1 4 := Option.some.inj (hnameA.symm.trans (hk.ar 4 rfl).2)
  have hcC : comp = G.2.2.1 3 := Option.some.inj (hcomp.symm.trans (hk.ar 3 rfl).2)
  have hc0 : c0 = G.2.2.1 4 := Option.some.inj (hfc0.symm.trans (hk.ar 4 rfl).2)
  have hc' : comp' = G.2.2.1 3 := Option.some.inj (hcomp'.symm.trans (hk.ar 3 rfl).2)
  subst hcA hcC hc0 hc'
  obtain ⟨hg₁, hwarm₁, hready₁⟩ := State.classEntry (e := K.2.1) X.warmed hcl
  generalize T.vm.noted K.2.2.2.2.1.cls idx (.cls (G.2.2.1 4)) = vm₁ at hg₁ hwarm₁ hready₁
  have hal : K.2.2.2.1.vm.Alike vm₁ := hwarm₁.alike
  obtain ⟨kA₁, hkA₁, heA⟩ := hal.2.2 _ _ hkA
  obtain ⟨kC₁, hkC₁, heC⟩ := hal.2.2 _ _ hkC
  have hkindA₁ : kA₁.kind = .array (G.2.2.1 3) (.array .byte) := by rw [heA]; exact hkindA
  have hkindC₁ : kC₁.kind = .array c3 .byte := by rw [heC]; exact hkindC
  have X₁ := X.noted hwarm₁
  have hlim : K.2.1.platform.arrayLengthLimit = 2147483645 ∨ 1000 ≤ K.2.1.platform.arrayLengthLimit := by
    right; rw [Launch.admits_arrayLengthLimit X.admits]; decide
  have hl1 : ¬ 200 > K.2.1.platform.arrayLengthLimit := by rw [Launch.admits_arrayLengthLimit X.admits]; decide
  have hl2 : ¬ 11 > K.2.1.platform.arrayLengthLimit := by rw [Launch.admits_arrayLengthLimit X.admits]; decide
  have hh1 : ¬ 200 * componentBytes (.array .byte) > K.2.1.platform.maxHeapBytes := by rw [Launch.admits_maxHeapBytes X.admits]; decide
  have hh2 : ¬ 11 * componentBytes .byte > K.2.1.platform.maxHeapBytes := by rw [Launch.admits_maxHeapBytes X.admits]; decide
  have all := fun i hi => stg.all (cA := G.2.2.1 4) (cB := G.2.2.1 3) X₁ i hi
  have go : ∀ (target : State), Steps K.1.tables K.2.1 K.2.2.2.2.2.2.1 ((rowU (T.setVm vm₁) (G.2.2.1 4) (G.2.2.1 3) 200).setTop (F0 K.2.2.2.2.1 (pc + 4) la (.ref T.heap.size :: st))) target → Steps K.1.tables K.2.1 K.2.2.2.2.2.2.1 (T.setTop (F0 K.2.2.2.2.1 pc la (.int (i32 11) :: .int (i32 200) :: st))) target := by
    intro target hrest
    have hdg : decode K.2.2.2.2.2.2.2.2.code pc = .ok (.multianewarray idx 2, 4) := by rw [hk.2.1]; exact hd
    jvm_step X.here [hk.1, hdg]
    simp only [multianewarray.sem, wp_bind', W.resolveClassAt_links (State.method?_setTop (F0 K.2.2.2.2.1 pc la (.int (i32 11) :: .int (i32 200) :: st)) X.here.top) hg₁]
    rw [W.popN, if_neg (by decide)]
    refine ⟨F0 K.2.2.2.2.1 pc la (.int (i32 11) :: .int (i32 200) :: st), State.topJava?_setTop' (s := T.setVm vm₁) _ X.here.top, [.int (i32 200), .int (i32 11)], st, rfl, rfl, ?_⟩
    simp only [List.mapM_cons, List.mapM_nil, wp_bind', wp_pure']
    have eS : ((T.setTop (F0 K.2.2.2.2.1 pc la (.int (i32 11) :: .int (i32 200) :: st))).setVm vm₁).setTop { F0 K.2.2.2.2.1 pc la (.int (i32 11) :: .int (i32 200) :: st) with stack := st } = (T.setVm vm₁).setTop (F0 K.2.2.2.2.1 pc la st) := by
      show ((T.setVm vm₁).setTop _).setTop _ = _
      rw [State.setTop_setTop]
    rw [eS]
    have h200 : ¬ (i32 200 < 0) := by decide
    have h11 : ¬ (i32 11 < 0) := by decide
    rw [multianewarray.make]
    simp only [wp_bind', W.ite, h200, if_false, wp_pure', W.theClass]
    refine ⟨kA₁, hkA₁, ?_⟩
    have hn : (i32 200).toNatClampNeg = 200 := by decide
    have hk11 : (i32 11).toNatClampNeg = 11 := by decide
    obtain ⟨hr1, hr2⟩ := X.roomAbove (a := 201) (b := 2400) hcells hslots
    simp only [hkindA₁, wp_bind', hn]
    refine W.newArray_of hkA₁ hkindA₁ hl1 hh1 (by show T.heap.size < _; omega) (by show T.slotsUsed + 200 ≤ _; omega) rfl (fun acts' => ?_)
    simp only [ge0 h11]
    rw [ite_self, wp_bind', Std.Legacy.Range.forIn_eq_forIn_range']
    have hsz : ([:200] : Std.Legacy.Range).size = 200 := by decide
    rw [hsz]
    have e0 : ((T.setVm vm₁).setTop (F0 K.2.2.2.2.1 pc la st)).pushCell { cls := G.2.2.1 4, slots := Array.replicate 200 .null } = ((T.setVm vm₁).pushCell (arrV (G.2.2.1 4) 200 (fun _ => .null))).setTop (F0 K.2.2.2.2.1 pc la st) := by
      rw [State.pushCell_setTop, ← arrV_new]
    rw [e0]
    refine wp_forIn_inv (fun rest s' => ∃ i, i ≤ 200 ∧ rest = List.range' i (200 - i) ∧ s' = (rowU (T.setVm vm₁) (G.2.2.1 4) (G.2.2.1 3) i).setTop (F0 K.2.2.2.2.1 pc la st)) _ _ ⟨0, Nat.zero_le _, rfl, rfl⟩ ?_ ?_
    · rintro x rest s' d' acts2 Q' ⟨i, hi, hl, rfl⟩ hnext
      have hlt : i < 200 := by
        rcases Nat.lt_or_ge i 200 with h | h
        · exact h
        · rw [show 200 - i = 0 by omega] at hl; simp at hl
      obtain ⟨rfl, hrest2⟩ : x = i ∧ rest = List.range' (i + 1) (200 - (i + 1)) := by
        rw [show 200 - i = (200 - (i + 1)) + 1 by omega, List.range'_succ] at hl
        exact ⟨(List.cons.inj hl).1, (List.cons.inj hl).2⟩
      have hU := all x (by omega)
      have hnx : ∀ d2 a2, Q' (ForInStep.yield PUnit.unit) d2 a2 ((rowU (T.setVm vm₁) (G.2.2.1 4) (G.2.2.1 3) (x + 1)).setTop (F0 K.2.2.2.2.1 pc la st)) := fun d2 a2 => hnext _ _ _ ⟨x + 1, hlt, hrest2, rfl⟩
      have eU : rowU (T.setVm vm₁) (G.2.2.1 4) (G.2.2.1 3) (x + 1) = ((rowU (T.setVm vm₁) (G.2.2.1 4) (G.2.2.1 3) x).pushCell (arrV (G.2.2.1 3) 11 (fun _ => .int 0))).setCell T.heap.size ((arrV (G.2.2.1 4) 200 (fun k => if k < x then .ref (T.heap.size + 1 + k) else .null)).setSlot x (.ref (rowU (T.setVm vm₁) (G.2.2.1 4) (G.2.2.1 3) x).heap.size)) := rfl
      rw [eU] at hnx
      clear hnext eU
      generalize rowU (T.setVm vm₁) (G.2.2.1 4) (G.2.2.1 3) x = U at hU hnx ⊢
      obtain ⟨u1, u2, u3, u4, u5, u6⟩ := hU
      obtain ⟨hq1, hq2⟩ := u1.roomAbove (a := 1) (b := 11) (by omega) (by omega)
      simp only [wp_bind']
      rw [multianewarray.make]
      simp only [wp_bind', W.ite, h11, if_false, wp_pure', W.theClass]
      have hvmC : (U.setTop (F0 K.2.2.2.2.1 pc la st)).vm.classes[G.2.2.1 3]? = some kC₁ := by
        show U.vm.classes[G.2.2.1 3]? = _
        rw [u6]; exact hkC₁
      have hvmA : (U.setTop (F0 K.2.2.2.2.1 pc la st)).vm.classes[G.2.2.1 4]? = some kA₁ := by
        show U.vm.classes[G.2.2.1 4]? = _
        rw [u6]; exact hkA₁
      refine ⟨kC₁, hvmC, ?_⟩
      simp only [hkindC₁, hk11]
      refine W.newArray_of hvmC hkindC₁ hl2 hh2 (by show U.heap.size < _; omega) (by show U.slotsUsed + 11 ≤ _; omega) rfl (fun acts3 => ?_)
      have e1 : (U.setTop (F0 K.2.2.2.2.1 pc la st)).pushCell { cls := G.2.2.1 3, slots := Array.replicate 11 (defaultValue .byte) } = (U.pushCell (arrV (G.2.2.1 3) 11 (fun _ => .int 0))).setTop (F0 K.2.2.2.2.1 pc la st) := by
        rw [State.pushCell_setTop, ← arrV_new]; rfl
      rw [e1]
      simp only [wp_bind', W.writeLoc, wp_pure']
      refine ⟨arrV (G.2.2.1 4) 200 (fun k => if k < x then .ref (T.heap.size + 1 + k) else .null), ?_, (by intro z; cases z), (by rw [arrV_size]; exact hlt), ?_, hnx _ _⟩
      · show (U.heap.push _)[T.heap.size]? = _
        rw [Array.getElem?_push, if_neg (by omega)]; exact u3
      · exact fits_ref (S := (U.pushCell (arrV (G.2.2.1 3) 11 (fun _ => .int 0))).setTop (F0 K.2.2.2.2.1 pc la st)) hvmA hkindA₁
    · rintro s' d' acts2 ⟨i, hi, hl, rfl⟩
      obtain rfl : i = 200 := by
        rcases Nat.lt_or_ge i 200 with h | h
        · rw [show 200 - i = (200 - (i + 1)) + 1 by omega, List.range'_succ] at hl; cases hl
        · omega
      have XF := (all 200 (Nat.le_refl _)).1
      simp only [wp_pure', wp_bind', W.mark, W.pushRef, State.topJava?_setTop' _ XF.here.top, Option.some.injEq, exists_eq_left', State.setTop_setTop, State.heap_setTop]
      intro acts
      simp [jvm, XF.here.top]
      exact hrest
  have fin : ∀ U, stg K.1 G.1 K.2.1 K.2.2.1 K.2.2.2.1 K.2.2.2.2.1 K.2.2.2.2.2.1 K.2.2.2.2.2.2.1 K.2.2.2.2.2.2.2.1 K.2.2.2.2.2.2.2.2 T locs cs ss vm₁ (G.2.2.1 4) (G.2.2.1 3) 200 U → ∃ t, Steps K.1.tables K.2.1 K.2.2.2.2.2.2.1 (U.setTop (F0 K.2.2.2.2.1 (pc + 4) la (.ref T.heap.size :: st))) t ∧ Q t := by
    intro U hU
    obtain ⟨X1, f1, f2, f5', f4, f6⟩ := hU
    have f2 : U.heap[T.heap.size]? = some (arrV (G.2.2.1 4) 200 (fun k => .ref (T.heap.size + 1 + k))) := by
      rw [f2]; exact congrArg some (arrV_ext (fun k hk => by rw [if_pos hk]))
    have f5 : ∀ {a : Nat}, a < H.size → U.heap[a]? = H[a]? := fun {a} ha => by rw [← hT]; exact f5' a (by rw [hT]; exact ha)
    rw [hT] at f1 f2 f4 X1 ⊢
    have f2 : U.heap[H.size]? = some (arrV (G.2.2.1 4) 200 (fun k => .ref ((upR (up ad (2, 0) H.size) 3 200 (fun k => H.size + 1 + k)) (3, k)))) := by
      rw [f2]; exact congrArg some (arrV_ext (fun k hk => by rw [upR_s hk]))
    have hB := hv.size hk g2
    have hin : ∀ j, j < 200 → U.heap[H.size + 1 + j]? = some (arrV (G.2.2.1 3) 11 (fun _ => .int 0)) := f4
    have hhv : hv G (upR (up ad (2, 0) H.size) 3 200 (fun k => H.size + 1 + k)) (upR (up w (2, 0) (some (cdf (upR (up ad (2, 0) H.size) 3 200 (fun k => H.size + 1 + k))))) 3 200 (fun _ => some (.inr (3, 11, fun _ => .int 0)))) U.heap := by
      have old : ∀ (j : Ix) (c : Ce), w j = some c → j ≠ (2, 0) ∧ j.1 ≠ 3 := fun j c hj => ⟨(fun e => by rw [e, h2] at hj; cases hj), fun e => by
        obtain ⟨x, y⟩ := j
        simp only at e
        subst e
        rw [h3] at hj; cases hj⟩
      refine ⟨fun j c hj => ?_, fun j k hj hk' e => ?_, fun x cell hx hc => ?_⟩
      · rcases upR_c (up w (2, 0) (some (cdf (upR (up ad (2, 0) H.size) 3 200 (fun k => H.size + 1 + k))))) 3 200 (fun _ => some (.inr (3, 11, fun _ => .int 0))) j with ⟨e1, e2, e3⟩ | ⟨e1, e3⟩
        · rw [e3] at hj
          cases hj
          obtain ⟨x, y⟩ := j
          simp only at e1 e2
          subst e1
          rw [upR_s e2]
          exact ⟨hin y e2, by omega⟩
        · rw [e3] at hj
          rcases up_c w (2, 0) j (some (cdf (upR (up ad (2, 0) H.size) 3 200 (fun k => H.size + 1 + k)))) with ⟨rfl, e4⟩ | ⟨e4, e5⟩
          · rw [e4] at hj
            cases hj
            rw [upR_n (by decide), up_s]
            exact ⟨f2, hB⟩
          · rw [e5] at hj
            obtain ⟨o1, o2⟩ := old j c hj
            rw [upR_n o2, up_n o1]
            obtain ⟨p1, p2⟩ := g1.1 j c hj
            exact ⟨p1.kept (f5 p1.lt), p2⟩
      · have key : ∀ x : Ix, upR (up w (2, 0) (some (cdf (upR (up ad (2, 0) H.size) 3 200 (fun k => H.size + 1 + k))))) 3 200 (fun _ => some (.inr (3, 11, fun _ => .int 0))) x ≠ none → (x = (2, 0) ∧ upR (up ad (2, 0) H.size) 3 200 (fun k => H.size + 1 + k) x = H.size) ∨ (x.1 = 3 ∧ x.2 < 200 ∧ upR (up ad (2, 0) H.size) 3 200 (fun k => H.size + 1 + k) x = H.size + 1 + x.2) ∨ (w x ≠ none ∧ upR (up ad (2, 0) H.size) 3 200 (fun k => H.size + 1 + k) x = ad x ∧ ad x < H.size) := by
          intro x hx
          rcases upR_c (up w (2, 0) (some (cdf (upR (up ad (2, 0) H.size) 3 200 (fun k => H.size + 1 + k))))) 3 200 (fun _ => some (.inr (3, 11, fun _ => .int 0))) x with ⟨e1, e2, e3⟩ | ⟨e1, e3⟩
          · refine Or.inr (Or.inl ⟨e1, e2, ?_⟩)
            obtain ⟨a, b⟩ := x
            simp only at e1 e2
            subst e1
            exact upR_s e2
          · rw [e3] at hx
            rcases up_c w (2, 0) x (some (cdf (upR (up ad (2, 0) H.size) 3 200 (fun k => H.size + 1 + k)))) with ⟨rfl, e4⟩ | ⟨e4, e5⟩
            · exact Or.inl ⟨rfl, by rw [upR_n (by decide), up_s]⟩
            · rw [e5] at hx
              cases hwx : w x with
              | none => exact absurd hwx hx
              | some c =>
                obtain ⟨o1, o2⟩ := old x c hwx
                exact Or.inr (Or.inr ⟨(by intro z; cases z), (by rw [upR_n o2, up_n o1]), (g1.1 x c hwx).1.lt⟩)
        rcases key j hj with ⟨a1, a2⟩ | ⟨a1, a2, a3⟩ | ⟨a1, a2, a3⟩ <;> rcases key k hk' with ⟨b1, b2⟩ | ⟨b1, b2, b3⟩ | ⟨b1, b2, b3⟩
        · rw [a1, b1]
        · rw [a2, b3] at e; omega
        · rw [a2, b2] at e; omega
        · rw [a3, b2] at e; omega
        · rw [a3, b3] at e
          obtain ⟨x, y⟩ := j
          obtain ⟨x', y'⟩ := k
          simp only at a1 b1 e
          subst a1 b1
          obtain rfl : y = y' := by omega
          rfl
        · rw [a3, b2] at e; omega
        · rw [a2, b2] at e; omega
        · rw [a2, b3] at e; omega
        · rw [a2, b2] at e
          exact g1.2.1 j k a1 b1 e
      · have hxl := (Array.getElem?_eq_some_iff.mp hc).1
        rcases Nat.lt_or_ge x H.size with hl | hl
        · rw [f5 hl] at hc
          exact g1.2.2 x cell hx hc
        · rcases Nat.eq_or_lt_of_le hl with he | hl2
          · subst he
            cases hc.symm.trans f2
            rfl
          · have := hin (x - (H.size + 1)) (by omega)
            rw [show H.size + 1 + (x - (H.size + 1)) = x by omega] at this
            cases hc.symm.trans this
            rfl
    have hS : va_S (gA G) K.2.2.2.1.heap U.heap (locs ++ (List.range 200).map fun j => ⟨H.size, j⟩) := ⟨Nat.le_trans g2.1 (by omega), fun x a b => (f5 (Nat.lt_of_lt_of_le a g2.1)).trans (g2.2.1 x a b), fun x hx => by
      rcases List.mem_append.mp hx with h | h
      · exact g2.2.2 x h
      · obtain ⟨j, -, rfl⟩ := List.mem_map.mp h
        exact hB⟩
    exact kk H.size U.heap _ la hhv hS g3 U rfl X1
  obtain ⟨t, a, b⟩ := fin _ (all 200 (Nat.le_refl _))
  exact ⟨t, go t a, b⟩
theorem c_Word_init (G : Gt) {ad : Ix → Nat} {w : Wt} {i j : Ix} {a : Nat} (ha : ad i = a) (h : w i = some (.inl (3, [.null, .int (i32 0)]))) (hj : w j = none) : Mt G y_Word_init w_Word_init 1 1 10 [.ref a] ad w (fun rv ad' w' => rv = none ∧ ∃ b, ad' = up ad j b ∧ w' = up (up w j (some (da 0))) i (some (wo (up ad j b) j false))) noT := by
  have hij : i ≠ j := fun e => by rw [e, hj] at h; cases h
  refine Mt.to [some (.ref a)] (fun K hk hR hin => ?_)
  obtain ⟨r1, r2, r3, r4⟩ := hR
  refine r_aload_n (i := 0) hk (dk_at D_Word_init 0 rfl) rfl rfl ?_
  refine r_objInit hk mo_Word_3 oi_1 oi_2 (dk_at D_Word_init 1 rfl) ⟨by omega, by omega⟩ (by decide) ?_
  refine r_aload_n (i := 0) hk (dk_at D_Word_init 2 rfl) rfl rfl ?_
  refine r_bipush hk (dk_at D_Word_init 3 rfl) (by decide) ?_
  refine r_newarr (t := 0) (n := 10) (i := j) hk (dk_at D_Word_init 4 rfl) hj rfl rfl rfl rfl (by omega) (by omega) (fun b => ?_)
  refine r_w ((wEq.rf w).up (cEq.ar (g := dg 0) (fun k _ => (by show Value.int 0 = .int (i32 ((0 / 10 ^ k % 10 : Nat) : Int)); rw [Nat.zero_div]; rfl)))) ?_
  refine r_putF (fs' := [_, _]) hk hin fl_Word_9 ft_Word_0 rfl (dk_at D_Word_init 5 rfl) ?_ (i := i) (ha := (up_n hij).trans ha) (hw := (up_n hij).trans h)
  exact r_vret hk (dk_at D_Word_init 6 rfl) ⟨rfl, b, rfl, by rw [wo, up_s]; rfl⟩
