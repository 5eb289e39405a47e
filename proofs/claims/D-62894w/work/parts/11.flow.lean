/-! rows for new cells, returns, weakening -/
section FLOW
variable {G : Gt} {K : Kt} {own : String} {cc : ByteArray} {nL : Nat} {ret : Option FieldType} {tb : List ExceptionTableEntry} {Q : State → Prop} {cs ss pc q mc ms : Nat} {ls : List (Option Value)} {st : List Value} {ad : Ix → Nat} {w : Wt} {post : Pst} {thr : Tst}
theorem r_widen {k n : Nat} (h1 : cs ≤ k) (h2 : ss ≤ n) (kk : V G K nL Q k n pc ls st ad w) : V G K nL Q cs ss pc ls st ad w := fun H locs la g1 g2 g3 => W.widen h1 h2 (kk H locs la g1 g2 g3)
theorem r_st {st' : List Value} (h : st = st') (kk : V G K nL Q cs ss pc ls st' ad w) : V G K nL Q cs ss pc ls st ad w := by subst h; exact kk
theorem r_top {v v' : Value} (h : v = v') (kk : V G K nL Q cs ss pc ls (v' :: st) ad w) : V G K nL Q cs ss pc ls (v :: st) ad w := by subst h; exact kk
theorem r_topi {x x' : Int} (h : x = x') (kk : V G K nL Q cs ss pc ls (.int (i32 x') :: st) ad w) : V G K nL Q cs ss pc ls (.int (i32 x) :: st) ad w := by subst h; exact kk
theorem r_topl {x x' : Int} (h : x = x') (kk : V G K nL Q cs ss pc ls (.long (i64 x') :: st) ad w) : V G K nL Q cs ss pc ls (.long (i64 x) :: st) ad w := by subst h; exact kk
theorem r_w {w' : Wt} (h : wEq w w') (kk : V G K nL Q cs ss pc ls st ad w') : V G K nL Q cs ss pc ls st ad w := fun H locs la g1 g2 g3 => kk H locs la (g1.eq h) g2 g3
theorem r_we {w' : Wt} (h : w = w') (kk : V G K nL Q cs ss pc ls st ad w') : V G K nL Q cs ss pc ls st ad w := by subst h; exact kk
theorem r_few {w' : Wt} (h : ∀ i c, w' i = some c → w i = some c) (kk : V G K nL Q cs ss pc ls st ad w') : V G K nL Q cs ss pc ls st ad w := fun H locs la g1 g2 g3 => kk H locs la (g1.fewer h) g2 g3
def lle (a b : Option Value) : Prop := match a, b with
  | none, _ => True
  | some x, some y => x = y
  | some _, none => False
def lsb : List (Option Value) → List (Option Value) → Prop
  | [], [] => True
  | a :: t, b :: u => lle a b ∧ lsb t u
  | _, _ => False
theorem lsb_at : ∀ (l l' : List (Option Value)), lsb l l' → ∀ (i : Nat) (v : Value), l[i]? = some (some v) → l'[i]? = some (some v)
  | [], [], _, i, v, h => by simp at h
  | a :: t, b :: u, h, 0, v, hv => by
    have hv : some a = some (some v) := hv
    cases hv
    have h1 : lle (some v) b := h.1
    cases b with
    | none => exact h1.elim
    | some y => cases h1; rfl
  | a :: t, b :: u, h, i + 1, v, hv => lsb_at t u h.2 i v hv
  | [], b :: u, h, i, v, hv => h.elim
  | a :: t, [], h, i, v, hv => h.elim
/-- fewer locals are told -/
theorem r_ls {ls' : List (Option Value)} (h : lsb ls' ls) (kk : V G K nL Q cs ss pc ls' st ad w) : V G K nL Q cs ss pc ls st ad w := fun H locs la g1 g2 g3 => kk H locs la g1 g2 ⟨g3.1, g3.2.1, fun i v hi => g3.2.2 i v (lsb_at _ _ h i v hi)⟩
theorem r_lse {ls' : List (Option Value)} (h : ls = ls') (kk : V G K nL Q cs ss pc ls' st ad w) : V G K nL Q cs ss pc ls st ad w := by subst h; exact kk
/-- ends -/
theorem W.qe {H : Heap} {locs : List Loc} {g : JFrame} (k : W K.1 G.1 K.2.1 K.2.2.1 K.2.2.2.1 K.2.2.2.2.1 K.2.2.2.2.2.1 K.2.2.2.2.2.2.1 K.2.2.2.2.2.2.2.1 K.2.2.2.2.2.2.2.2 H locs cs ss (MQ K.2.2.2.2.2.2.1 (fun _ s o t => Oc G post thr o t ∧ s.heap.size ≤ t.heap.size ∧ ∀ q : Nat, q < s.heap.size → ¬ gA G q → t.heap[q]? = s.heap[q]?) K.2.2.2.2.2.1 K.2.2.2.1 mc ms (gA G)) g) :
    W K.1 G.1 K.2.1 K.2.2.1 K.2.2.2.1 K.2.2.2.2.1 K.2.2.2.2.2.1 K.2.2.2.2.2.2.1 K.2.2.2.2.2.2.2.1 K.2.2.2.2.2.2.2.2 H locs cs ss (QE G K post thr mc ms) g := by
  intro T hT X
  obtain ⟨t, a, o, b1, b2, ⟨b3, b4, b5⟩, L, ⟨-, b6, b7⟩, b8⟩ := k T hT X
  exact ⟨t, a, o, b1, b2, b3, b6, b4, b5, L, b7, b8⟩
theorem r_iret {x : Int32} (hk : Ok G K own cc nL (some .int) tb) (hd : decode cc pc = .ok (.ireturn, 1) ∧ pc + 1 = q) (hp : post (some (.int x)) ad w) (hm : Nat.ble cs mc = true := by rfl) (hs : Nat.ble ss ms = true := by rfl) : V G K nL (QE G K post thr mc ms) cs ss pc ls [.int x] ad w := by
  intro H locs la h1 h2 h3
  refine W.qe (W.widen (Nat.le_of_ble_eq_true hm) (Nat.le_of_ble_eq_true hs) (W.iret hk.1 hk.2.1 hk.2.2.2.2.2.1 (fun t ht hW => ⟨⟨ad, w, by rw [ht]; exact h1, Or.inl ⟨_, rfl, hp⟩⟩, by rw [ht]; exact h2.1, fun q a b => by rw [ht]; exact h2.2.1 q a b⟩) h2.2.2 hd.1 hk.2.2.2.2.2.2.1))
theorem r_zret {x : Int32} {ty : FieldType} (hk : Ok G K own cc nL (some ty) tb) (hd : decode cc pc = .ok (.ireturn, 1) ∧ pc + 1 = q) (hn : narrow ty (.int x) = .int x) (hp : post (some (.int x)) ad w) (hm : Nat.ble cs mc = true := by rfl) (hs : Nat.ble ss ms = true := by rfl) : V G K nL (QE G K post thr mc ms) cs ss pc ls [.int x] ad w := by
  intro H locs la h1 h2 h3
  refine W.qe (W.widen (Nat.le_of_ble_eq_true hm) (Nat.le_of_ble_eq_true hs) (W.zret hk.1 hk.2.1 hk.2.2.2.2.2.1 hn (fun t ht hW => ⟨⟨ad, w, by rw [ht]; exact h1, Or.inl ⟨_, rfl, hp⟩⟩, by rw [ht]; exact h2.1, fun q a b => by rw [ht]; exact h2.2.1 q a b⟩) h2.2.2 hd.1 hk.2.2.2.2.2.2.1))
theorem r_bret {b : Bool} (hk : Ok G K own cc nL (some .boolean) tb) (hd : decode cc pc = .ok (.ireturn, 1) ∧ pc + 1 = q) (hp : post (some (.int (i32 (b2i b)))) ad w) (hm : Nat.ble cs mc = true := by rfl) (hs : Nat.ble ss ms = true := by rfl) : V G K nL (QE G K post thr mc ms) cs ss pc ls [.int (i32 (b2i b))] ad w := r_zret hk hd (b2i_n b) hp hm hs
theorem r_lret {x : Int64} (hk : Ok G K own cc nL (some .long) tb) (hd : decode cc pc = .ok (.lreturn, 1) ∧ pc + 1 = q) (hp : post (some (.long x)) ad w) (hm : Nat.ble cs mc = true := by rfl) (hs : Nat.ble ss ms = true := by rfl) : V G K nL (QE G K post thr mc ms) cs ss pc ls [.long x] ad w := by
  intro H locs la h1 h2 h3
  refine W.qe (W.widen (Nat.le_of_ble_eq_true hm) (Nat.le_of_ble_eq_true hs) (W.lret hk.1 hk.2.1 hk.2.2.2.2.2.1 (fun t ht hW => ⟨⟨ad, w, by rw [ht]; exact h1, Or.inl ⟨_, rfl, hp⟩⟩, by rw [ht]; exact h2.1, fun q a b => by rw [ht]; exact h2.2.1 q a b⟩) h2.2.2 hd.1 hk.2.2.2.2.2.2.1))
theorem r_vret (hk : Ok G K own cc nL none tb) (hd : decode cc pc = .ok (.return_, 1) ∧ pc + 1 = q) (hp : post none ad w) (hm : Nat.ble cs mc = true := by rfl) (hs : Nat.ble ss ms = true := by rfl) : V G K nL (QE G K post thr mc ms) cs ss pc ls [] ad w := by
  intro H locs la h1 h2 h3
  refine W.qe (W.widen (Nat.le_of_ble_eq_true hm) (Nat.le_of_ble_eq_true hs) (W.vret hk.1 hk.2.1 hk.2.2.2.2.2.1 (fun t ht hW => ⟨⟨ad, w, by rw [ht]; exact h1, Or.inl ⟨_, rfl, hp⟩⟩, by rw [ht]; exact h2.1, fun q a b => by rw [ht]; exact h2.2.1 q a b⟩) h2.2.2 hd.1 hk.2.2.2.2.2.2.1))
theorem r_aret {v : Value} {C : String} (hk : Ok G K own cc nL (some (.object C)) tb) (hd : decode cc pc = .ok (.areturn, 1) ∧ pc + 1 = q) (hv : v = .null ∨ ∃ a, v = .ref a) (hp : post (some v) ad w) (hm : Nat.ble cs mc = true := by rfl) (hs : Nat.ble ss ms = true := by rfl) : V G K nL (QE G K post thr mc ms) cs ss pc ls [v] ad w := by
  intro H locs la h1 h2 h3
  refine W.qe (W.widen (Nat.le_of_ble_eq_true hm) (Nat.le_of_ble_eq_true hs) (W.aret hk.1 hk.2.1 hk.2.2.2.2.2.1 (Or.inl ⟨_, rfl⟩) hv (fun t ht hW => ⟨⟨ad, w, by rw [ht]; exact h1, Or.inl ⟨_, rfl, hp⟩⟩, by rw [ht]; exact h2.1, fun q a b => by rw [ht]; exact h2.2.1 q a b⟩) h2.2.2 hd.1 hk.2.2.2.2.2.2.1))
/-- new cells -/
theorem hv.size {H : Heap} {locs : List Loc} (hk : Ok G K own cc nL ret tb) (h2 : va_S (gA G) K.2.2.2.1.heap H locs) : G.2.2.2.2 ≤ H.size := Nat.le_trans hk.2.2.2.2.1.2.2.1 h2.1
theorem hv.S {H H1 : Heap} {locs : List Loc} (h2 : va_S (gA G) K.2.2.2.1.heap H locs) (hz : H1.size = H.size + 1) (o1 : ∀ q : Nat, q < H.size → H1[q]? = H[q]?) : va_S (gA G) K.2.2.2.1.heap H1 locs :=
  ⟨Nat.le_trans h2.1 (by omega), fun x a b => (o1 x (Nat.lt_of_lt_of_le a h2.1)).trans (h2.2.1 x a b), h2.2.2⟩
theorem r_new {idx ci : Nat} {i : Ix} {C : String} {N : Nat} {fs : List Value} (hk : Ok G K own cc nL ret tb) (hm : Cond.classLink own idx C ∈ tw) (hm2 : Cond.instantiable C N ∈ tw) (hm3 : Cond.initialized C ∈ tw) (hc : cls[ci]?.map (fun r => (r.1, r.2.2)) = some (C, N)) (hd : decode cc pc = .ok (.new idx, 3) ∧ pc + 3 = q) (hi : w i = none)
    (hfs : ∀ r ∈ cls[ci]?, ∀ k, k < r.2.2 → ((parseFieldDescriptor (r.2.1 k).2.2.1).map defaultValue) = some (vp_V fs k)) (hcells : cs + 1 ≤ K.2.2.1.cells) (hslots : ss + N ≤ K.2.2.1.slots)
    (kk : ∀ a : Nat, V G K nL Q (cs + 1) (ss + N) q ls (.ref a :: st) (up ad i a) (up w i (some (.inl (ci, fs))))) : V G K nL Q cs ss pc ls st ad w := by
  obtain ⟨hd, rfl⟩ := hd
  intro H locs la h1 h2 h3
  cases hcl : cls[ci]? with
  | none => rw [hcl] at hc; cases hc
  | some r =>
    obtain ⟨C', T, N'⟩ := r
    rw [hcl] at hc
    cases hc
    obtain ⟨ty, o1, o2, o3⟩ := cls_ok ci _ hcl
    have hKn := hk.kk.1 ci _ hcl
    refine W.newcK hk.1 hk.2.1 hk.2.2.2.1 (hk.ts _ hm) (hk.ts _ hm2) (hk.ts _ hm3) rfl hd hcells hslots hKn.2.1 rfl fun H1 kC hkC e1 z1 oq => ?_
    refine kk H.size H1 locs la (h1.push hi rfl (hv.size hk h2) ⟨_, hcl, (u_born ty hk.ts o1 hKn hkC e1 o2).to (fun j hj => ?_)⟩ z1 oq) (hv.S h2 z1 oq) h3
    have h9 := hfs _ hcl j hj
    rw [o2 j hj] at h9
    exact Option.some.inj h9
theorem r_newarr {t n : Nat} {i : Ix} {atype : ArrayType} {j : Int} (hk : Ok G K own cc nL ret tb) (hd : decode cc pc = .ok (.newarray atype, 2) ∧ pc + 2 = q) (hi : w i = none) (hty : newarray.typeOf atype = aty t) (ht : Nat.blt t 4 = true) (hj : j = (n : Int)) (hn : Nat.blt n 100000 = true) (hcells : cs + 1 ≤ K.2.2.1.cells) (hslots : ss + n ≤ K.2.2.1.slots)
    (kk : ∀ a : Nat, V G K nL Q (cs + 1) (ss + n) q ls (.ref a :: st) (up ad i a) (up w i (some (.inr (t, n, fun _ => defaultValue (aty t)))))) : V G K nL Q cs ss pc ls (.int (i32 j) :: st) ad w := by
  obtain ⟨hd, rfl⟩ := hd
  subst hj
  intro H locs la h1 h2 h3
  have hn' : n < 100000 := Nat.blt_eq.mp hn
  have ht' : t < 4 := Nat.blt_eq.mp ht
  obtain ⟨c1, c2, c3⟩ := i32_clamp (j := (n : Int)) (n := n + 1) (by omega) (by omega)
  have hb : componentBytes (newarray.typeOf atype) ≤ 8 := by cases atype <;> decide
  refine va_newaK hk.1 hk.2.1 (by rw [hty]; exact hk.2.2.2.2.1.2.2.2.2.2.1 t ht' _) rfl hd rfl c2 (c1.trans rfl) (Nat.le_trans (Nat.mul_le_mul (Nat.le_refl _) hb) (by show (n : Int).toNat * 8 ≤ _; simp only [Int.toNat_natCast]; omega)) hcells (by simpa using hslots) rfl fun H1 cA e1 z1 oq hAr hNm => ?_
  have hcA : cA = G.2.2.1 t := by
    have h9 := (hk.ar t (Nat.blt_eq.mpr (by omega))).2
    rw [hty] at hNm
    match t, ht' with
    | 0, _ => exact Option.some.inj (hNm.symm.trans h9)
    | 1, _ => exact Option.some.inj (hNm.symm.trans h9)
    | 2, _ => exact Option.some.inj (hNm.symm.trans h9)
    | 3, _ => exact Option.some.inj (hNm.symm.trans h9)
  subst hcA
  rw [hty] at e1
  simp only [Int.toNat_natCast] at e1 ⊢
  exact kk H.size H1 locs la (h1.push hi rfl (hv.size hk h2) e1 z1 oq) (hv.S h2 z1 oq) h3
theorem r_anew {idx t n : Nat} {i : Ix} {C : String} {j : Int} (hk : Ok G K own cc nL ret tb) (hm : Cond.classLink own idx C ∈ tw) (hC : aty t = .object C) (hO : C = "DrumMachine$Line" ∨ C = "DrumMachine$Word") (ht : Nat.blt t 7 = true) (hd : decode cc pc = .ok (.anewarray idx, 3) ∧ pc + 3 = q) (hi : w i = none) (hj : j = (n : Int)) (hn : Nat.blt n 100000 = true) (hcells : cs + 1 ≤ K.2.2.1.cells) (hslots : ss + n ≤ K.2.2.1.slots)
    (kk : ∀ a : Nat, V G K nL Q (cs + 1) (ss + n) q ls (.ref a :: st) (up ad i a) (up w i (some (.inr (t, n, fun _ => .null))))) : V G K nL Q cs ss pc ls (.int (i32 j) :: st) ad w := by
  obtain ⟨hd, rfl⟩ := hd
  subst hj
  intro H locs la h1 h2 h3
  have hn' : n < 100000 := Nat.blt_eq.mp hn
  obtain ⟨c1, c2, c3⟩ := i32_clamp (j := (n : Int)) (n := n + 1) (by omega) (by omega)
  have hN : (i32 (n : Int)).toNatClampNeg = n := c1
  have hover : va_AO C K.2.2.2.1 := by
    rcases hO with rfl | rfl
    · exact hk.2.2.2.2.1.2.2.2.2.2.2.1.1 _
    · exact hk.2.2.2.2.1.2.2.2.2.2.2.1.2 _
  refine W.anew hk.1 hk.2.1 hk.2.2.2.1 (hk.ts _ hm) (va_AO.use hover) rfl hd rfl c2 (by rw [hN]; omega) hcells (by rw [hN]; exact hslots) fun cA kA comp f1 f2 f3 f4 => ?_
  rw [hN]
  have hcA : cA = G.2.2.1 t := by
    have h9 := (hk.ar t ht).2
    rw [hC] at h9
    obtain ⟨_, _, -, -, -, k4⟩ := h9
    exact Option.some.inj (f1.symm.trans k4)
  subst hcA
  generalize hH1 : H.push ({ cls := G.2.2.1 t, slots := Array.replicate n .null, vm := .none } : Cell) = H1
  have z1 : H1.size = H.size + 1 := by rw [← hH1, Array.size_push]
  have e1 : H1[H.size]? = some (arrV (G.2.2.1 t) n (fun _ => .null)) := by rw [← hH1, Array.getElem?_push_size, ← arrV_new]
  have oq : ∀ q : Nat, q < H.size → H1[q]? = H[q]? := fun q hq => by rw [← hH1, Array.getElem?_push, if_neg (Nat.ne_of_lt hq)]
  exact kk H.size H1 locs la (h1.push hi rfl (hv.size hk h2) e1 z1 oq) (hv.S h2 z1 oq) h3
theorem r_objInit {idx a : Nat} (hk : Ok G K own cc nL ret tb) (hm : Cond.methodLink own idx Lib.objectInit ∈ tw) (hm2 : Cond.instanceMethod Lib.objectInit ∈ tw) (hm3 : Cond.code Lib.objectInit ⟨#[0xb1]⟩ 1 none ∈ tw) (hd : decode cc pc = .ok (.invokespecial idx, 3) ∧ pc + 3 = q) (hr : 1 ≤ K.2.2.1.frames ∧ 34 ≤ K.2.2.1.locals) (hst : (st.map fun v => v.category).sum ≤ 8)
    (kk : V G K nL Q cs ss q ls st ad w) : V G K nL Q cs ss pc ls (.ref a :: st) ad w := by
  obtain ⟨hd, rfl⟩ := hd
  intro H locs la h1 h2 h3
  exact W.objInit hk.1 hk.2.1 hk.2.2.2.1 (hk.ts _ hm) (hk.ts _ hm2) (hk.ts _ hm3) rfl (h3.1.trans hk.2.2.1.symm) rfl hd hr.1 (by show 2 * 0 + _ + 12 ≤ _; omega) (kk H locs la h1 h2 h3)
end FLOW
