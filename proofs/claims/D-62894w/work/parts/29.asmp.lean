/-! the assembler, plainly -/
abbrev AS : Type := (Nat → Bool) × Bool × (Nat → Int)
def adr (op : Bool) (b k : Nat) : Nat := cond op ((b + k / 4) % 50 + 50 * (k % 4)) k
/-- the first from k on, of n -/
def fF (P : Nat → Bool) : Nat → Nat → Option Nat
  | 0, _ => none
  | n + 1, k => cond (P k) (some k) (fF P n (k + 1))
theorem fF_lt {P : Nat → Bool} : ∀ {n k j : Nat}, fF P n k = some j → j < k + n
  | 0, k, j, h => by cases h
  | n + 1, k, j, h => by
    unfold fF at h
    cases hp : P k with
    | true => rw [hp] at h; cases h; omega
    | false => rw [hp] at h; have := fF_lt h; omega
theorem fF_f {P : Nat → Bool} {n k : Nat} (h : P k = false) : fF P (n + 1) k = fF P n (k + 1) := by
  show cond (P k) _ _ = _
  rw [h]; rfl
theorem fF_t {P : Nat → Bool} {n k : Nat} (h : P k = true) : fF P (n + 1) k = some k := by
  show cond (P k) _ _ = _
  rw [h]; rfl
theorem fF_ext {P Q : Nat → Bool} (h : ∀ k, P k = Q k) : ∀ n k, fF P n k = fF Q n k
  | 0, _ => rfl
  | n + 1, k => by unfold fF; rw [h k, fF_ext h n (k + 1)]
theorem adr_lt {op : Bool} {b k : Nat} (h : k < 200) : adr op b k < 200 := by
  cases op
  · exact h
  · show (b + k / 4) % 50 + 50 * (k % 4) < 200
    have := Nat.mod_lt (b + k / 4) (show 0 < 50 by decide)
    omega
theorem adr_mod (op : Bool) (b k : Nat) : adr op (b % 50) k = adr op b k := by
  cases op
  · rfl
  · show (b % 50 + k / 4) % 50 + 50 * (k % 4) = (b + k / 4) % 50 + 50 * (k % 4)
    omega
def tkF (op : Bool) (b : Nat) : Option Nat → AS → AS × Int
  | none, (gv, _, p) => ((gv, true, p), 0)
  | some k, (gv, fu, p) => ((fu_ gv (adr op b k) true, fu, p), (adr op b k : Nat))
def tk (op : Bool) (b : Nat) (s : AS) : AS × Int := tkF op b (fF (fun k => !s.1 (adr op b k)) 200 0) s
theorem tk_mod (op : Bool) (b : Nat) (s : AS) : tk op (b % 50) s = tk op b s := by
  obtain ⟨gv, fu, p⟩ := s
  unfold tk
  rw [fF_ext (Q := fun k => !gv (adr op b k)) (fun k => by show (!gv (adr op (b % 50) k)) = _; rw [adr_mod])]
  cases fF (fun k => !gv (adr op b k)) 200 0 with
  | none => rfl
  | some k => show ((fu_ gv (adr op (b % 50) k) true, fu, p), ((adr op (b % 50) k : Nat) : Int)) = _; rw [adr_mod]; rfl
theorem tk_r (op : Bool) (b : Nat) (s : AS) : 0 ≤ (tk op b s).2 ∧ (tk op b s).2 < 200 := by
  obtain ⟨gv, fu, p⟩ := s
  unfold tk
  cases h : fF (fun k => !gv (adr op b k)) 200 0 with
  | none => show (0 : Int) ≤ 0 ∧ (0 : Int) < 200; decide
  | some k =>
    have := adr_lt (op := op) (b := b) (k := k) (by have := fF_lt h; omega)
    show (0 : Int) ≤ ((adr op b k : Nat) : Int) ∧ ((adr op b k : Nat) : Int) < 200
    omega
theorem tk_p (op : Bool) (b : Nat) (s : AS) : (tk op b s).1.2.2 = s.2.2 := by
  obtain ⟨gv, fu, p⟩ := s
  unfold tk
  cases fF (fun k => !gv (adr op b k)) 200 0 <;> rfl
theorem tk_m (op : Bool) (b : Nat) (s : AS) (h : s.2.1 = true) : (tk op b s).1.2.1 = true := by
  obtain ⟨gv, fu, p⟩ := s
  unfold tk
  cases fF (fun k => !gv (adr op b k)) 200 0
  · rfl
  · exact h
def stl (op : Bool) (part : Int) (b : Nat) (s : AS) : AS × Int := if part < 1000 then (s, part) else if s.2.2 (part - 1000).toNat = -1 then (((tk op b s).1.1, (tk op b s).1.2.1, fu_ s.2.2 (part - 1000).toNat (tk op b s).2), (tk op b s).2) else (s, s.2.2 (part - 1000).toNat)
theorem stl_mod (op : Bool) (part : Int) (b : Nat) (s : AS) : stl op part (b % 50) s = stl op part b s := by
  unfold stl
  rw [tk_mod]
def okP (p : Nat → Int) : Prop := ∀ k, k < 20 → -1 ≤ p k ∧ p k < 200
theorem stl_r {op : Bool} {part : Int} {b : Nat} {s : AS} (hp : okP s.2.2) (h : isP part = true) (h1 : part ≠ -1) : (0 ≤ (stl op part b s).2 ∧ (stl op part b s).2 < 200) ∧ okP (stl op part b s).1.2.2 := by
  have h := isP_t.mp h
  unfold stl
  by_cases c1 : part < 1000
  · rw [if_pos c1]; exact ⟨by show 0 ≤ part ∧ part < 200; omega, hp⟩
  · rw [if_neg c1]
    have hk := hp (part - 1000).toNat (by omega)
    by_cases c2 : s.2.2 (part - 1000).toNat = -1
    · rw [if_pos c2]
      refine ⟨tk_r op b s, fun k hk => ?_⟩
      show -1 ≤ fu_ s.2.2 (part - 1000).toNat (tk op b s).2 k ∧ fu_ s.2.2 (part - 1000).toNat (tk op b s).2 k < 200
      have := tk_r op b s
      by_cases e : k = (part - 1000).toNat
      · rw [e, fu_s]; omega
      · rw [fu_n e]; exact hp k hk
    · rw [if_neg c2]; exact ⟨by show 0 ≤ s.2.2 (part - 1000).toNat ∧ s.2.2 (part - 1000).toNat < 200; omega, hp⟩
theorem stl_m {op : Bool} {part : Int} {b : Nat} {s : AS} (h : s.2.1 = true) : (stl op part b s).1.2.1 = true := by
  unfold stl
  split
  · exact h
  · split
    · exact tk_m op b s h
    · exact h
/-- where line k lies -/
def lcR (op : Bool) (ln : Nat → Ln) (k : Nat) (tn : Nat → Int) (s : AS) : AS × Int := if (ln k).1 ≠ -1 then stl op (ln k).1 0 s else if 0 < k ∧ (ln (k - 1)).2.2.2 = -1 then (s, tn (k - 1)) else tk op 0 s
def kd (l : Ln) : Nat := (knd l.2.1).getD 0
/-- its data part; the best angle behind it; its next part -/
def cmD (op : Bool) (l : Ln) (at_ : Int) (s : AS) : AS × Int := if l.2.2.1 = -1 then (s, 0) else if kd l = 11 then (s, l.2.2.1) else stl op l.2.2.1 (at_ + 1).toNat s
def cmB (l : Ln) (at_ td : Int) : Nat := ((if acs (kd l) = true then td else at_) + 1 + (tks (kd l) l.2.1.toNat td.toNat : Nat)).toNat
def cmN (op : Bool) (ln : Nat → Ln) (m k b : Nat) (s : AS) : AS × Int := if (ln k).2.2.2 ≠ -1 then stl op (ln k).2.2.2 b s else if k + 1 < m ∧ (ln (k + 1)).1 = -1 then tk op b s else (s, 0)
abbrev SQ : Type := AS × (Nat → Int) × (Nat → Int) × (Nat → Int)
def oneL (op : Bool) (ln : Nat → Ln) (m k : Nat) (x : SQ) : SQ :=
  ((cmN op ln m k (cmB (ln k) (lcR op ln k x.2.2.2 x.1).2 (cmD op (ln k) (lcR op ln k x.2.2.2 x.1).2 (lcR op ln k x.2.2.2 x.1).1).2) (cmD op (ln k) (lcR op ln k x.2.2.2 x.1).2 (lcR op ln k x.2.2.2 x.1).1).1).1,
   fu_ x.2.1 k (lcR op ln k x.2.2.2 x.1).2,
   fu_ x.2.2.1 k (cmD op (ln k) (lcR op ln k x.2.2.2 x.1).2 (lcR op ln k x.2.2.2 x.1).1).2,
   fu_ x.2.2.2 k (cmN op ln m k (cmB (ln k) (lcR op ln k x.2.2.2 x.1).2 (cmD op (ln k) (lcR op ln k x.2.2.2 x.1).2 (lcR op ln k x.2.2.2 x.1).1).2) (cmD op (ln k) (lcR op ln k x.2.2.2 x.1).2 (lcR op ln k x.2.2.2 x.1).1).1).2)
def sq (op : Bool) (ln : Nat → Ln) (m : Nat) (s0 : AS) : Nat → SQ
  | 0 => (s0, fun _ => 0, fun _ => 0, fun _ => 0)
  | k + 1 => oneL op ln m k (sq op ln m s0 k)
/-- what is given at the start -/
def mk1 (gv : Nat → Bool) (part : Int) : Nat → Bool := if 0 ≤ part ∧ part < 200 then fu_ gv part.toNat true else gv
def mkL (gv : Nat → Bool) (l : Ln) : Nat → Bool := mk1 (if kd l = 11 then mk1 gv l.1 else mk1 (mk1 gv l.1) l.2.2.1) l.2.2.2
def bgn (r : Nat → Bool) (ln : Nat → Ln) : Nat → Nat → Bool
  | 0 => r
  | k + 1 => mkL (bgn r ln k) (ln k)
def s00 (r : Nat → Bool) (ln : Nat → Ln) (m : Nat) : AS := (bgn r ln m, false, noP)
/-- some line before k lies where line k does -/
def dupK (at_ : Nat → Int) (k : Nat) : Bool := (List.range k).any fun j => decide (at_ j = at_ k)
def dupM (at_ : Nat → Int) (m : Nat) : Bool := (List.range m).any fun k => dupK at_ k
theorem dupK_t {at_ : Nat → Int} {k : Nat} : dupK at_ k = true ↔ ∃ j, j < k ∧ at_ j = at_ k := by
  unfold dupK
  simp only [List.any_eq_true, List.mem_range, decide_eq_true_eq]
theorem dupM_t {at_ : Nat → Int} {m : Nat} : dupM at_ m = true ↔ ∃ k, k < m ∧ dupK at_ k = true := by
  unfold dupM
  simp only [List.any_eq_true, List.mem_range]
def allS (op : Bool) (r : Nat → Bool) (ln : Nat → Ln) (m : Nat) : SQ := sq op ln m (s00 r ln m) m
def asmOk (op : Bool) (r : Nat → Bool) (ln : Nat → Ln) (m : Nat) : Bool := !(allS op r ln m).1.2.1 && !(dupM (allS op r ln m).2.1 m)
theorem lcR_r {op : Bool} {ln : Nat → Ln} {k : Nat} {tn : Nat → Int} {s : AS} (hp : okP s.2.2) (hl : okL (ln k)) (ht : 0 < k → 0 ≤ tn (k - 1) ∧ tn (k - 1) < 200) : (0 ≤ (lcR op ln k tn s).2 ∧ (lcR op ln k tn s).2 < 200) ∧ okP (lcR op ln k tn s).1.2.2 := by
  unfold lcR
  split
  · exact stl_r hp hl.1 ‹_›
  · split
    · rename_i h; exact ⟨ht h.1, hp⟩
    · exact ⟨tk_r op 0 s, by rw [tk_p]; exact hp⟩
theorem cmD_r {op : Bool} {l : Ln} {a : Int} {s : AS} (hp : okP s.2.2) (hl : okL l) : (0 ≤ (cmD op l a s).2 ∧ (cmD op l a s).2 < 200) ∧ okP (cmD op l a s).1.2.2 := by
  obtain ⟨l1, l2, k, l3, l4, l5⟩ := hl
  have hkd : kd l = k := by unfold kd; rw [l3]; rfl
  unfold cmD
  split
  · exact ⟨by show (0 : Int) ≤ 0 ∧ (0 : Int) < 200; decide, hp⟩
  · split
    · rename_i h1 h2
      have := l4 (by omega)
      exact ⟨by show 0 ≤ l.2.2.1 ∧ l.2.2.1 < 200; omega, hp⟩
    · rename_i h1 h2
      exact stl_r hp (l5 (by omega)) h1
theorem cmN_r {op : Bool} {ln : Nat → Ln} {m k b : Nat} {s : AS} (hp : okP s.2.2) (hl : okL (ln k)) : (0 ≤ (cmN op ln m k b s).2 ∧ (cmN op ln m k b s).2 < 200) ∧ okP (cmN op ln m k b s).1.2.2 := by
  unfold cmN
  split
  · exact stl_r hp hl.2.1 ‹_›
  · split
    · exact ⟨tk_r op b s, by rw [tk_p]; exact hp⟩
    · exact ⟨by show (0 : Int) ≤ 0 ∧ (0 : Int) < 200; decide, hp⟩
def rg2 (f : Nat → Int) (k : Nat) : Prop := ∀ j, j < k → 0 ≤ f j ∧ f j < 200
theorem rg2.s {f : Nat → Int} {k : Nat} {x : Int} (h : rg2 f k) (hx : 0 ≤ x ∧ x < 200) : rg2 (fu_ f k x) (k + 1) := fun j hj => by
  by_cases e : j = k
  · rw [e, fu_s]; exact hx
  · rw [fu_n e]; exact h j (by omega)
def okQ (x : SQ) (k : Nat) : Prop := okP x.1.2.2 ∧ rg2 x.2.1 k ∧ rg2 x.2.2.1 k ∧ rg2 x.2.2.2 k
theorem oneL_ok {op : Bool} {ln : Nat → Ln} {m k : Nat} {x : SQ} (h : okQ x k) (hl : okL (ln k)) : okQ (oneL op ln m k x) (k + 1) := by
  obtain ⟨h1, h2, h3, h4⟩ := h
  obtain ⟨a1, a2⟩ := lcR_r (op := op) (k := k) (tn := x.2.2.2) h1 hl (fun hk => h4 (k - 1) (by omega))
  obtain ⟨b1, b2⟩ := cmD_r (op := op) (a := (lcR op ln k x.2.2.2 x.1).2) a2 hl
  obtain ⟨c1, c2⟩ := cmN_r (op := op) (m := m) (b := cmB (ln k) (lcR op ln k x.2.2.2 x.1).2 (cmD op (ln k) (lcR op ln k x.2.2.2 x.1).2 (lcR op ln k x.2.2.2 x.1).1).2) b2 hl
  exact ⟨c2, h2.s a1, h3.s b1, h4.s c1⟩
theorem sq_ok {op : Bool} {ln : Nat → Ln} {m : Nat} {s0 : AS} (h0 : okP s0.2.2) : ∀ k, (∀ j, j < k → okL (ln j)) → okQ (sq op ln m s0 k) k
  | 0, _ => ⟨h0, fun j hj => by omega, fun j hj => by omega, fun j hj => by omega⟩
  | k + 1, h => oneL_ok (sq_ok h0 k (fun j hj => h j (by omega))) (h k (by omega))
theorem noP_ok : okP noP := fun k _ => by show (-1 : Int) ≤ -1 ∧ (-1 : Int) < 200; decide
theorem lcR_m {op : Bool} {ln : Nat → Ln} {k : Nat} {tn : Nat → Int} {s : AS} (h : s.2.1 = true) : (lcR op ln k tn s).1.2.1 = true := by
  unfold lcR
  split
  · exact stl_m h
  · split
    · exact h
    · exact tk_m op 0 s h
theorem cmD_m {op : Bool} {l : Ln} {a : Int} {s : AS} (h : s.2.1 = true) : (cmD op l a s).1.2.1 = true := by
  unfold cmD
  split
  · exact h
  · split
    · exact h
    · exact stl_m h
theorem cmN_m {op : Bool} {ln : Nat → Ln} {m k b : Nat} {s : AS} (h : s.2.1 = true) : (cmN op ln m k b s).1.2.1 = true := by
  unfold cmN
  split
  · exact stl_m h
  · split
    · exact tk_m op b s h
    · exact h
theorem oneL_m {op : Bool} {ln : Nat → Ln} {m k : Nat} {x : SQ} (h : (lcR op ln k x.2.2.2 x.1).1.2.1 = true) : (oneL op ln m k x).1.2.1 = true := cmN_m (cmD_m h)
theorem sq_m {op : Bool} {ln : Nat → Ln} {m : Nat} {s0 : AS} {k : Nat} : ∀ n, (sq op ln m s0 k).1.2.1 = true → (sq op ln m s0 (k + n)).1.2.1 = true
  | 0, h => h
  | n + 1, h => oneL_m (lcR_m (sq_m n h))
/-- what is told of a line stays -/
theorem sq_at {op : Bool} {ln : Nat → Ln} {m : Nat} {s0 : AS} {k j : Nat} (hj : j < k) : ∀ n, (sq op ln m s0 (k + n)).2.1 j = (sq op ln m s0 k).2.1 j
  | 0 => rfl
  | n + 1 => by
    show fu_ (sq op ln m s0 (k + n)).2.1 (k + n) _ j = _
    rw [fu_n (by omega)]
    exact sq_at hj n
