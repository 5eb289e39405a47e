/-! more rows: cells that were just written -/
theorem up_id {w : Wt} {i : Ix} {c : Option Ce} (h : w i = c) : up w i c = w := by
  funext j
  rcases up_c w i j c with ⟨rfl, e⟩ | ⟨-, e⟩
  · rw [e, h]
  · exact e
theorem up_up {α : Type} {f : Ix → α} {i : Ix} {a b : α} : up (up f i a) i b = up f i b := by
  funext j
  rcases up_c (up f i a) i j b with ⟨rfl, e⟩ | ⟨hn, e⟩
  · rw [e, up_s]
  · rw [e, up_n hn, up_n hn]
theorem up_sw {α : Type} {f : Ix → α} {i j : Ix} {a b : α} (h : i ≠ j) : up (up f i a) j b = up (up f j b) i a := by
  funext k
  rcases up_c (up f i a) j k b with ⟨rfl, e⟩ | ⟨hn, e⟩
  · rw [e, up_n (Ne.symm h), up_s]
  · rw [e]
    rcases up_c f i k a with ⟨rfl, e2⟩ | ⟨hn2, e2⟩
    · rw [e2, up_s]
    · rw [e2, up_n hn2, up_n hn]
theorem ij_ne {w : Wt} {i j : Ix} {a : Nat × List Value} {b : Nat × Nat × (Nat → Value)} (h1 : w i = some (.inl a)) (h2 : w j = some (.inr b)) : i ≠ j := fun e => by
  subst e
  rw [h1] at h2
  cases h2
theorem ext_s {f g : Nat → Value} {n : Nat} {x : Value} (h : ∀ k, k < n → f k = g k) (hx : x = g n) : ∀ k, k < n + 1 → updV f n x k = g k := by
  intro k hk
  unfold updV
  by_cases e : k = n
  · subst e; rw [if_pos rfl, hx]
  · rw [if_neg e]; exact h k (by omega)
theorem ext_0 {f g : Nat → Value} : ∀ k, k < 0 → f k = g k := fun k h => by omega
theorem updV_s {f : Nat → Value} {n : Nat} {x : Value} : updV f n x n = x := by unfold updV; rw [if_pos rfl]
theorem updV_n {f : Nat → Value} {n k : Nat} {x : Value} (h : k ≠ n) : updV f n x k = f k := by unfold updV; rw [if_neg h]
section UPS
variable {G : Gt} {K : Kt} {own : String} {cc : ByteArray} {nL : Nat} {ret : Option FieldType} {tb : List ExceptionTableEntry} {Q : State → Prop} {cs ss pc q : Nat} {ls : List (Option Value)} {st : List Value} {ad : Ix → Nat} {w : Wt} {ix a n : Nat} {i : Ix} {f : Nat → Value} {j : Int}
theorem r_iastoreU {x : Int32} (hk : Ok G K own cc nL ret tb) (hd : decode cc pc = .ok (.iastore, 1) ∧ pc + 1 = q) (kk : V G K nL Q cs ss q ls st ad (up w i (some (.inr (0, n, updV f ix (.int x)))))) (ha : ad i = a := by rfl) (hn : Nat.blt n 2147483648 = true := by rfl) (hj : j = (ix : Int) := by omega) (hjn : ix < n := by omega) : V G K nL Q cs ss pc ls (.int x :: .int (i32 j) :: .ref a :: st) ad (up w i (some (.inr (0, n, f)))) :=
  r_iastore (ix := ix) hk hd (r_we up_up kk) ha up_s hn hj hjn
theorem r_lastoreU {x : Int64} (hk : Ok G K own cc nL ret tb) (hd : decode cc pc = .ok (.lastore, 1) ∧ pc + 1 = q) (kk : V G K nL Q cs ss q ls st ad (up w i (some (.inr (1, n, updV f ix (.long x)))))) (ha : ad i = a := by rfl) (hn : Nat.blt n 2147483648 = true := by rfl) (hj : j = (ix : Int) := by omega) (hjn : ix < n := by omega) : V G K nL Q cs ss pc ls (.long x :: .int (i32 j) :: .ref a :: st) ad (up w i (some (.inr (1, n, f)))) :=
  r_lastore (ix := ix) hk hd (r_we up_up kk) ha up_s hn hj hjn
theorem r_zastoreU {b : Bool} (hk : Ok G K own cc nL ret tb) (hd : decode cc pc = .ok (.bastore, 1) ∧ pc + 1 = q) (kk : V G K nL Q cs ss q ls st ad (up w i (some (.inr (2, n, updV f ix (.int (i32 (b2i b)))))))) (ha : ad i = a := by rfl) (hn : Nat.blt n 2147483648 = true := by rfl) (hj : j = (ix : Int) := by omega) (hjn : ix < n := by omega) : V G K nL Q cs ss pc ls (.int (i32 (b2i b)) :: .int (i32 j) :: .ref a :: st) ad (up w i (some (.inr (2, n, f)))) :=
  r_zastore (ix := ix) hk hd (r_we up_up kk) ha up_s hn hj hjn
theorem r_bastoreU {x : Int} (hk : Ok G K own cc nL ret tb) (hd : decode cc pc = .ok (.bastore, 1) ∧ pc + 1 = q) (kk : V G K nL Q cs ss q ls st ad (up w i (some (.inr (3, n, updV f ix (.int (i32 x))))))) (ha : ad i = a := by rfl) (hn : Nat.blt n 2147483648 = true := by rfl) (hj : j = (ix : Int) := by omega) (hjn : ix < n := by omega) (hx : -128 ≤ x ∧ x < 128 := by omega) : V G K nL Q cs ss pc ls (.int (i32 x) :: .int (i32 j) :: .ref a :: st) ad (up w i (some (.inr (3, n, f)))) :=
  r_bastore (ix := ix) hk hd (r_we up_up kk) ha up_s hn hj hjn hx
/-- one array's contents told otherwise -/
theorem r_arr {t : Nat} {g : Nat → Value} (h : ∀ k, k < n → f k = g k) (kk : V G K nL Q cs ss pc ls st ad (up w i (some (.inr (t, n, g))))) : V G K nL Q cs ss pc ls st ad (up w i (some (.inr (t, n, f)))) := r_w ((wEq.rf w).up (cEq.ar h)) kk
theorem r_in {c : Option Ce} (h : w i = c) (kk : V G K nL Q cs ss pc ls st ad (up w i c)) : V G K nL Q cs ss pc ls st ad w := r_we (up_id h).symm kk
/-- a local is told no more -/
theorem r_drop (k : Nat) {ls' : List (Option Value)} (hl : ls.set k none = ls') (kk : V G K nL Q cs ss pc ls' st ad w) : V G K nL Q cs ss pc ls st ad w := by
  subst hl
  intro H locs la g1 g2 g3
  refine kk H locs la g1 g2 ⟨g3.1, g3.2.1, fun i v hi => g3.2.2 i v ?_⟩
  by_cases e : i = k
  · subst e
    have hl : i < (ls.set i none).length := (List.getElem?_eq_some_iff.mp hi).1
    rw [List.getElem?_set_self (by simpa using hl)] at hi
    cases hi
  · rwa [List.getElem?_set_ne (Ne.symm e)] at hi
end UPS
