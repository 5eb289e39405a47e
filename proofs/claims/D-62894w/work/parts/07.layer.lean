/-! THE LAYER: worlds by index, what holds of every state, the judgement V, contracts -/
abbrev Ix : Type := Nat × Nat
/-- a cell's picture: an object (number of its class, fields), or an array (number of its kind, length, contents) -/
abbrev Ce : Type := (Nat × List Value) ⊕ (Nat × Nat × (Nat → Value))
abbrev Wt : Type := Ix → Option Ce
/-- the launch; the classes' numbers and slots; the array classes; Kind's constants; the base: all cells of ours lie from it on -/
abbrev Gt : Type := Launch × va_G × (Nat → ClassId) × (Nat → Nat) × Nat
abbrev gA (G : Gt) : Nat → Prop := fun q => G.2.2.2.2 ≤ q
def aty : Nat → FieldType
  | 0 => .int
  | 1 => .long
  | 2 => .boolean
  | 3 => .byte
  | 4 => .array .byte
  | 5 => .object "DrumMachine$Line"
  | _ => .object "DrumMachine$Word"
def up {α : Type} (f : Ix → α) (i : Ix) (c : α) : Ix → α := fun j => cond (Nat.beq j.1 i.1 && Nat.beq j.2 i.2) c (f j)
theorem up_ix {i j : Ix} : (Nat.beq j.1 i.1 && Nat.beq j.2 i.2) = true ↔ j = i := by
  obtain ⟨a, b⟩ := i
  obtain ⟨c, d⟩ := j
  simp only [Bool.and_eq_true, Nat.beq_eq, Prod.mk.injEq]
theorem up_s {α : Type} {f : Ix → α} {i : Ix} {c : α} : up f i c i = c := by
  have h : (Nat.beq i.1 i.1 && Nat.beq i.2 i.2) = true := up_ix.mpr rfl
  simp only [up, h, cond_true]
theorem up_n {α : Type} {f : Ix → α} {i j : Ix} {c : α} (h : j ≠ i) : up f i c j = f j := by
  have h2 : (Nat.beq j.1 i.1 && Nat.beq j.2 i.2) = false := by
    cases hb : (Nat.beq j.1 i.1 && Nat.beq j.2 i.2) with
    | false => rfl
    | true => exact absurd (up_ix.mp hb) h
  simp only [up, h2, cond_false]
theorem up_c {α : Type} (f : Ix → α) (i j : Ix) (c : α) : (j = i ∧ up f i c j = c) ∨ (j ≠ i ∧ up f i c j = f j) := by
  by_cases h : j = i
  · subst h; exact Or.inl ⟨rfl, up_s⟩
  · exact Or.inr ⟨h, up_n h⟩
/-- the cell at a is as the picture says -/
def cAt (G : Gt) (a : Nat) (c : Ce) (H : Heap) : Prop := match c with
  | .inl o => ∃ r : vw_C, cls[o.1]? = some r ∧ t_OB a (G.2.1.1 o.1) r.2.2 (G.2.1.2 o.1) H (vp_V o.2)
  | .inr x => H[a]? = some (arrV (G.2.2.1 x.1) x.2.1 x.2.2)
theorem cAt.kept {G : Gt} {a : Nat} {c : Ce} {H H1 : Heap} (h : cAt G a c H) (hq : H1[a]? = H[a]?) : cAt G a c H1 := by
  cases c with
  | inl o =>
    obtain ⟨r, h1, h2⟩ := h
    exact ⟨r, h1, h2.kept hq⟩
  | inr x => exact hq.trans h
theorem cAt.cell {G : Gt} {a : Nat} {c : Ce} {H : Heap} (h : cAt G a c H) : ∃ cell : Cell, H[a]? = some cell ∧ cell.vm = .none := by
  cases c with
  | inl o =>
    obtain ⟨r, h1, cell, h2, h3, h4, h5⟩ := h
    exact ⟨cell, h2, h4⟩
  | inr x => exact ⟨_, h, rfl⟩
theorem cAt.lt {G : Gt} {a : Nat} {c : Ce} {H : Heap} (h : cAt G a c H) : a < H.size := by
  obtain ⟨cell, h1, -⟩ := h.cell
  exact (Array.getElem?_eq_some_iff.mp h1).1
/-- no cell from the base on holds statics -/
def nSt (B : Nat) (H : Heap) : Prop := ∀ (q : Nat) (cell : Cell), B ≤ q → H[q]? = some cell → cell.vm.isStatics = false
/-- THE WORLD: the heap holds the picture w, its cells laid out by ad -/
def hv (G : Gt) (ad : Ix → Nat) (w : Wt) (H : Heap) : Prop :=
  (∀ (i : Ix) (c : Ce), w i = some c → cAt G (ad i) c H ∧ G.2.2.2.2 ≤ ad i) ∧ (∀ i j : Ix, w i ≠ none → w j ≠ none → ad i = ad j → i = j) ∧ nSt G.2.2.2.2 H
theorem hv.set {G : Gt} {ad : Ix → Nat} {w : Wt} {H H1 : Heap} {i : Ix} {c0 c : Ce} (h : hv G ad w H) (hi : w i = some c0) (he : cAt G (ad i) c H1) (oq : ∀ q : Nat, q ≠ ad i → H1[q]? = H[q]?) : hv G ad (up w i (some c)) H1 := by
  refine ⟨fun j d hj => ?_, fun j k hj hk e => ?_, fun q cell hq hc => ?_⟩
  · rcases up_c w i j (some c) with ⟨rfl, e⟩ | ⟨hn, e⟩
    · rw [e] at hj
      cases hj
      exact ⟨he, (h.1 j c0 hi).2⟩
    · rw [e] at hj
      obtain ⟨h1, h2⟩ := h.1 j d hj
      refine ⟨h1.kept (oq _ fun z => hn ?_), h2⟩
      exact h.2.1 j i (by rw [hj]; exact fun z => by cases z) (by rw [hi]; exact fun z => by cases z) z
  · have key : ∀ x : Ix, up w i (some c) x ≠ none → w x ≠ none := by
      intro x hx
      rcases up_c w i x (some c) with ⟨rfl, -⟩ | ⟨-, e⟩
      · rw [hi]; exact fun z => by cases z
      · rw [e] at hx; exact hx
    exact h.2.1 j k (key j hj) (key k hk) e
  · by_cases e : q = ad i
    · subst e
      obtain ⟨cell', h1, h2⟩ := he.cell
      cases h1.symm.trans hc
      rw [h2]; rfl
    · rw [oq q e] at hc
      exact h.2.2 q cell hq hc
/-- a new cell behind all others, at the place i -/
theorem hv.push {G : Gt} {ad : Ix → Nat} {w : Wt} {H H1 : Heap} {i : Ix} {c : Ce} {q : Nat} (h : hv G ad w H) (hi : w i = none) (hq : q = H.size) (hB : G.2.2.2.2 ≤ H.size) (he : cAt G q c H1) (hz : H1.size = q + 1) (oq : ∀ x : Nat, x < q → H1[x]? = H[x]?) : hv G (up ad i q) (up w i (some c)) H1 := by
  refine ⟨fun j d hj => ?_, fun j k hj hk e => ?_, fun x cell hx hc => ?_⟩
  · rcases up_c w i j (some c) with ⟨rfl, e⟩ | ⟨hn, e⟩
    · rw [e] at hj
      cases hj
      rw [up_s]
      exact ⟨he, by rw [hq]; exact hB⟩
    · rw [e] at hj
      obtain ⟨h1, h2⟩ := h.1 j d hj
      rw [up_n hn]
      exact ⟨h1.kept (oq _ (by rw [hq]; exact h1.lt)), h2⟩
  · have key : ∀ x : Ix, up w i (some c) x ≠ none → x ≠ i → w x ≠ none ∧ up ad i q x = ad x ∧ ad x < q := by
      intro x hx hn
      rw [up_n hn] at hx
      refine ⟨hx, up_n hn, ?_⟩
      cases hw : w x with
      | none => exact absurd hw hx
      | some d => rw [hq]; exact (h.1 x d hw).1.lt
    by_cases hji : j = i
    · by_cases hki : k = i
      · rw [hji, hki]
      · obtain ⟨h1, h2, h3⟩ := key k hk hki
        rw [hji, up_s, h2] at e
        omega
    · obtain ⟨h1, h2, h3⟩ := key j hj hji
      by_cases hki : k = i
      · rw [hki, up_s, h2] at e
        omega
      · obtain ⟨g1, g2, g3⟩ := key k hk hki
        rw [h2, g2] at e
        exact h.2.1 j k h1 g1 e
  · have hxl := (Array.getElem?_eq_some_iff.mp hc).1
    by_cases e : x = q
    · subst e
      obtain ⟨cell', h1, h2⟩ := he.cell
      cases h1.symm.trans hc
      rw [h2]; rfl
    · rw [oq x (by omega)] at hc
      exact h.2.2 x cell hx hc
/-- two pictures of one cell -/
def cEq (c d : Ce) : Prop := match c, d with
  | .inl a, .inl b => a = b
  | .inr a, .inr b => a.1 = b.1 ∧ a.2.1 = b.2.1 ∧ ∀ k, k < a.2.1 → a.2.2 k = b.2.2 k
  | _, _ => False
theorem cEq.rf (c : Ce) : cEq c c := by
  cases c with
  | inl a => exact rfl
  | inr a => exact ⟨rfl, rfl, fun _ _ => rfl⟩
theorem cEq.ar {t n : Nat} {f g : Nat → Value} (h : ∀ k, k < n → f k = g k) : cEq (.inr (t, n, f)) (.inr (t, n, g)) := ⟨rfl, rfl, h⟩
theorem arrV_ext {c : ClassId} {n : Nat} {f g : Nat → Value} (h : ∀ k, k < n → f k = g k) : arrV c n f = arrV c n g := by
  unfold arrV
  congr 1
  apply Array.ext
  · simp
  · intro j h1 h2
    simp only [Array.getElem_ofFn]
    exact h j (by simpa using h1)
theorem cAt.eq {G : Gt} {a : Nat} {c d : Ce} {H : Heap} (h : cAt G a c H) (e : cEq c d) : cAt G a d H := by
  cases c with
  | inl x =>
    cases d with
    | inl y => cases e; exact h
    | inr y => cases e
  | inr x =>
    cases d with
    | inl y => cases e
    | inr y =>
      obtain ⟨t, n, f⟩ := x
      obtain ⟨t', n', f'⟩ := y
      obtain ⟨e1, e2, e3⟩ := e
      simp only at e1 e2 e3
      subst e1; subst e2
      have h0 : H[a]? = some (arrV (G.2.2.1 t) n f) := h
      show H[a]? = some (arrV (G.2.2.1 t) n f')
      rw [h0, arrV_ext e3]
def wEq (w w' : Wt) : Prop := ∀ i : Ix, w i = w' i ∨ ∃ c d, w i = some c ∧ w' i = some d ∧ cEq c d
theorem wEq.rf (w : Wt) : wEq w w := fun _ => Or.inl rfl
theorem wEq.of {w w' : Wt} (h : ∀ i, w i = w' i) : wEq w w' := fun i => Or.inl (h i)
theorem wEq.up {w w' : Wt} {i : Ix} {c d : Ce} (h : wEq w w') (e : cEq c d) : wEq (up w i (some c)) (up w' i (some d)) := by
  intro j
  rcases up_c w i j (some c) with ⟨rfl, e1⟩ | ⟨hn, e1⟩
  · exact Or.inr ⟨c, d, e1, up_s, e⟩
  · rw [e1, up_n hn]; exact h j
theorem hv.eq {G : Gt} {ad : Ix → Nat} {w w' : Wt} {H : Heap} (h : hv G ad w H) (e : wEq w w') : hv G ad w' H := by
  have key : ∀ i : Ix, w' i ≠ none → w i ≠ none := by
    intro i hi
    rcases e i with e1 | ⟨c, d, e1, e2, e3⟩
    · rw [e1]; exact hi
    · rw [e1]; exact fun z => by cases z
  refine ⟨fun i d hd => ?_, fun i j hi hj ee => h.2.1 i j (key i hi) (key j hj) ee, h.2.2⟩
  rcases e i with e1 | ⟨c, d', e1, e2, e3⟩
  · exact h.1 i d (e1.trans hd)
  · cases e2.symm.trans hd
    exact ⟨(h.1 i c e1).1.eq e3, (h.1 i c e1).2⟩
theorem hv.fewer {G : Gt} {ad : Ix → Nat} {w w' : Wt} {H : Heap} (h : hv G ad w H) (e : ∀ i c, w' i = some c → w i = some c) : hv G ad w' H := by
  have key : ∀ i : Ix, w' i ≠ none → w i ≠ none := by
    intro i hi
    cases hw : w' i with
    | none => exact absurd hw hi
    | some c => rw [e i c hw]; exact fun z => by cases z
  exact ⟨fun i c hc => h.1 i c (e i c hc), fun i j hi hj ee => h.2.1 i j (key i hi) (key j hj) ee, h.2.2⟩
/-- WHAT HOLDS OF EVERY STATE -/
def gW (U : State) : Prop := ∀ w ∈ tw, ∀ a : Array Value, w.before a U = true
abbrev tys (G : Gt) : List (ClassId × FieldType) := [(G.2.2.1 0, aty 0), (G.2.2.1 1, aty 1), (G.2.2.1 2, aty 2), (G.2.2.1 3, aty 3), (G.2.2.1 4, aty 4), (G.2.2.1 5, aty 5), (G.2.2.1 6, aty 6)]
def knm : List String := ["NOTHING", "STOP", "ADD", "RESET_ADD", "LOAD", "MULTIPLY", "DIVIDE", "LOOK", "STORE", "READ", "PUNCH", "SHIFT", "BRANCH"]
def kF : List (String × String × String × List Int32) := [("java/lang/Enum", "ordinal", "I", [0, 1, 2, 3, 4, 5, 6, 7, 8, 9, 10, 11, 12])]
def kE (G : Gt) (U : State) (H : Heap) : Prop := va_En "DrumMachine$Kind" "LDrumMachine$Kind;" knm kF G.2.2.2.1 (gA G) U H
def thR : List (String × String × String) := [("java/lang/Throwable", "UNASSIGNED_STACK", "[Ljava/lang/StackTraceElement;"), ("java/lang/Throwable", "SUPPRESSED_SENTINEL", "Ljava/util/List;")]
def gT (U : State) : Prop := ∀ x ∈ thR, ∀ a : Array Value, (Cond.laysStatic x.1 x.2.1 x.2.2).before a U = true ∧ (Cond.isRef (.static x.1 x.2.1 x.2.2)).before a U = true
def gC (U : State) : Prop := ∀ k, k < 4 → ∀ a : Array Value, (Cond.arrayClass (aty k)).before a U = true
def gO (U : State) : Prop := (∀ a : Array Value, (Cond.arrayOver (.object "DrumMachine$Line")).before a U = true) ∧ ∀ a : Array Value, (Cond.arrayOver (.object "DrumMachine$Word")).before a U = true
def gN (U : State) : Prop := va_Nc "java/lang/IllegalArgumentException" "java/lang/IndexOutOfBoundsException" U ∧ va_Nc "java/lang/IllegalStateException" "java/lang/IllegalArgumentException" U ∧ va_Nc "java/lang/UnsupportedOperationException" "java/lang/IllegalStateException" U
def gM (G : Gt) (U : State) : Prop := ∀ a : Array Value, (Cond.arrayOver (.array .byte)).before a U = true
def gf (G : Gt) (U : State) : Prop := gW U ∧ va_K G.2.1 cls (tys G) U ∧ G.2.2.2.2 ≤ U.heap.size ∧ kE G U U.heap ∧ gT U ∧ gC U ∧ gO U ∧ nSt G.2.2.2.2 U.heap ∧ gN U ∧ G.1.flags = flags0 ∧ gM G U
theorem gW.moved {s U : State} (hW : s.WarmedH U.vm) (h : gW s) : gW U := by
  intro w hw a
  have ho : okW w = true := (List.mem_filter.mp hw).2
  simp only [okW, Bool.and_eq_true, Bool.or_eq_true] at ho
  rcases ho.2 with hk | hk
  · have h1 := Cond.onTables_warmH (T := U) (args' := a) hW ho.1 hk (h w hw a)
    rwa [State.setVm_self] at h1
  · have h1 := Cond.faceAtom_setVm hW.alike w hk (h w hw a)
    rw [Cond.onTables_vm (A' := a) (U' := U) U.vm w ho.1, State.setVm_self] at h1
    exact h1
/-- statics' cells stay -/
def sK (s U : State) : Prop := ∀ (q : Nat) (cell : Cell), s.heap[q]? = some cell → cell.vm.isStatics = true → U.heap[q]? = some cell
theorem gT.moved {s U : State} (hW : s.WarmedH U.vm) (hs : sK s U) (h : gT s) : gT U := by
  intro x hx a
  obtain ⟨h1, h2⟩ := h x hx a
  obtain ⟨c, k, i, f, b, cell, hc, hi, hst, ha, hcell, his, hcls, hlt, hty⟩ := Cond.laysStatic_spec h1
  obtain ⟨k', hi', he⟩ := State.fieldFound?_setVm hW.alike hi
  have hc' : U.vm.findClass x.1 = some c := by rw [hW.alike.findClass]; exact hc
  have ha' : k'.statics = some b := by rw [he]; exact ha
  have hi2 : U.fieldFound? x.1 x.2.1 x.2.2 = some (c, k', i, f) := hi'
  have hcell' : U.heap[b]? = some cell := hs b cell hcell his
  have hty' : k'.staticTypes[f.slot]? = some f.type := by rw [he]; exact hty
  refine ⟨?_, ?_⟩
  · simp only [Cond.before, Cond.holds, Cond.value, hc', hi2, ha', Option.bind_some, hcell', Option.map_some, hst, his, hcls, hlt, hty', Option.some.injEq]
    simp
  · obtain ⟨u, hu⟩ := Cond.staticRefV hi hst ha hcell his h2
    have hev : (Term.static x.1 x.2.1 x.2.2).eval a U none [] U = some u.v := by
      simp [Term.eval, State.fieldNamed?, hi2, hst, ha', hcell', his, hu]
    obtain ⟨v, hv⟩ := u
    simp only [Cond.before, Cond.holds, Cond.value, hev]
    cases v <;> simp [Value.isRef] at hv <;> rfl
theorem gC.moved {s U : State} (hW : s.WarmedH U.vm) (h : gC s) : gC U := fun k hk a => word_at hW (Or.inr ⟨_, rfl⟩) (h k hk a)
theorem sK.of {B : Nat} {s U : State} {locs : List Loc} (hn : nSt B s.heap) (hS : va_S (fun q => B ≤ q) s.heap U.heap locs) : sK s U := by
  intro q cell hc hi
  have hlt := (Array.getElem?_eq_some_iff.mp hc).1
  have hq : ¬ B ≤ q := fun z => by
    have := hn q cell z hc
    rw [hi] at this; cases this
  rw [hS.2.1 q hlt hq]; exact hc
