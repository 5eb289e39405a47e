/-! codes of digits -/
def cod (d : Nat) : Nat := 2 ^ (d % 5) + (if d < 5 then 32 else 64)
theorem shl1 : ∀ k, k < 7 → i32 1 <<< (i32 ((k : Nat) : Int) &&& 31) = i32 ((2 ^ k : Nat) : Int) := by decide +kernel
theorem or32 : ∀ k, k < 5 → i32 ((2 ^ k : Nat) : Int) ||| i32 32 = i32 ((2 ^ k + 32 : Nat) : Int) := by decide +kernel
theorem or64 : ∀ k, k < 5 → i32 ((2 ^ k : Nat) : Int) ||| i32 64 = i32 ((2 ^ k + 64 : Nat) : Int) := by decide +kernel
theorem cod_lt : ∀ d, d < 10 → cod d < 128 := by decide
def fnd (c : Nat) : Nat → Int
  | 0 => -1
  | n + 1 => if cod n = c then (n : Int) else fnd c n
/-- the digit of a code; -1: none -/
def deco (c : Nat) : Int := fnd c 10
theorem fnd_r (c n : Nat) : -1 ≤ fnd c n ∧ fnd c n ≤ (n : Int) - 1 := by
  induction n with
  | zero => simp [fnd]
  | succ n ih => simp only [fnd]; split <;> omega
theorem deco_r (c : Nat) : -1 ≤ deco c ∧ deco c < 10 := by
  have := fnd_r c 10
  unfold deco
  omega
theorem deco_cod : ∀ d, d < 10 → deco (cod d) = (d : Int) := by decide
/-- all ten codes of a word are valid -/
def vld (c : Nat → Nat) : Bool := (List.range 10).all fun k => decide (0 ≤ deco (c k))
theorem vld_t {c : Nat → Nat} (h : vld c = true) : ∀ k, k < 10 → deco (c k) ≠ -1 := fun k hk => by
  have h1 := List.all_eq_true.mp h k (List.mem_range.mpr hk)
  have := of_decide_eq_true h1
  omega
theorem vld_of {c : Nat → Nat} (h : ∀ k, k < 10 → deco (c k) ≠ -1) : vld c = true := by
  have h1 : ∀ k, k < 10 → 0 ≤ deco (c k) := fun k hk => by
    have := h k hk
    have := deco_r (c k)
    omega
  exact List.all_eq_true.mpr (fun k hk => decide_eq_true (h1 k (List.mem_range.mp hk)))
theorem vld_f {c : Nat → Nat} {k : Nat} (hk : k < 10) (h : deco (c k) = -1) : vld c = false := by
  cases e : vld c with
  | false => rfl
  | true => exact absurd h (vld_t e k hk)
/-- the number of digits g -/
def num (g : Nat → Nat) : Nat → Nat
  | 0 => 0
  | n + 1 => num g n + g n * 10 ^ n
theorem num_lt {g : Nat → Nat} {n : Nat} (h : ∀ k, k < n → g k < 10) : num g n < 10 ^ n := by
  induction n with
  | zero => simp [num]
  | succ n ih =>
    have h1 := ih (fun k hk => h k (by omega))
    have h2 := h n (by omega)
    simp only [num, Nat.pow_succ]
    have : g n * 10 ^ n ≤ 9 * 10 ^ n := Nat.mul_le_mul_right _ (by omega)
    omega
theorem num_dgt {g : Nat → Nat} {n : Nat} (h : ∀ k, k < n → g k < 10) : ∀ k, k < n → dgt (num g n) k = g k := by
  induction n with
  | zero => intro k hk; omega
  | succ n ih =>
    intro k hk
    have hlt := num_lt (fun k hk => h k (Nat.lt_succ_of_lt hk))
    simp only [num]
    by_cases e : k = n
    · subst e
      unfold dgt
      rw [Nat.add_mul_div_right _ _ (Nat.pow_pos (by decide)), Nat.div_eq_of_lt hlt, Nat.zero_add]
      exact Nat.mod_eq_of_lt (h k (by omega))
    · have h1 := ih (fun k hk => h k (by omega)) k (by omega)
      obtain ⟨m, rfl⟩ : ∃ m, n = k + 1 + m := ⟨n - (k + 1), by omega⟩
      unfold dgt at h1 ⊢
      have e2 : num g (k + 1 + m) + g (k + 1 + m) * 10 ^ (k + 1 + m) = num g (k + 1 + m) + (g (k + 1 + m) * 10 ^ m * 10) * 10 ^ k := by
        generalize g (k + 1 + m) = b
        congr 1
        rw [show k + 1 + m = m + (1 + k) by omega, Nat.pow_add, Nat.pow_add, Nat.pow_one, Nat.mul_assoc, Nat.mul_assoc]
      rw [e2, Nat.add_mul_div_right _ _ (Nat.pow_pos (by decide)), Nat.add_mul_mod_self_right]
      exact h1
/-- a word's value by its codes -/
def val (c : Nat → Nat) : Nat := num (fun k => (deco (c k)).toNat) 10
theorem val_lt (c : Nat → Nat) : val c < 10000000000 := num_lt (n := 10) (fun k _ => by have := deco_r (c k); omega)
theorem val_dgt (c : Nat → Nat) : ∀ k, k < 10 → dgt (val c) k = (deco (c k)).toNat := num_dgt (fun k _ => by have := deco_r (c k); omega)
theorem num_ext {g h : Nat → Nat} : ∀ n, (∀ k, k < n → g k = h k) → num g n = num h n
  | 0, _ => rfl
  | n + 1, e => by simp only [num]; rw [num_ext n (fun k hk => e k (by omega)), e n (by omega)]
theorem num_self (v : Nat) : ∀ n, num (dgt v) n = v % 10 ^ n
  | 0 => by simp [num, Nat.mod_one]
  | n + 1 => by
    simp only [num]
    rw [num_self v n]
    unfold dgt
    have h := Nat.mod_mul (x := v) (a := 10 ^ n) (b := 10)
    rw [Nat.pow_succ, h, Nat.mul_comm (v / 10 ^ n % 10)]
theorem val_cod {v : Nat} (hv : v < 10000000000) : val (fun k => cod (dgt v k)) = v := by
  unfold val
  rw [num_ext (h := dgt v) 10 (fun k _ => by show (deco (cod (dgt v k))).toNat = _; rw [deco_cod _ (dgt_lt v k)]; omega), num_self]
  exact Nat.mod_eq_of_lt hv
theorem vld_cod (v : Nat) : vld (fun k => cod (dgt v k)) = true := vld_of (fun k _ => by
  show deco (cod (dgt v k)) ≠ -1
  rw [deco_cod _ (dgt_lt v k)]; omega)
/-! DrumMachine.Drum -/
def rwf (c : Nat → Nat) (sg : Bool) : Nat → Value := fun k => cond (Nat.blt k 10) (.int (i32 (c k))) (.int (i32 (b2i sg)))
abbrev rw_ (c : Nat → Nat) (sg : Bool) : Ce := .inr (3, 11, rwf c sg)
abbrev cdf (ad : Ix → Nat) : Ce := .inr (4, 200, fun a => .ref (ad (3, a)))
abbrev dr (ad : Ix → Nat) (t : Nat) : Ce := .inl (1, [.ref (ad (2, 0)), .long (i64 (t : Int))])
theorem rwf_lo {c : Nat → Nat} {sg : Bool} {k : Nat} (h : k < 10) : rwf c sg k = .int (i32 (c k)) := by
  unfold rwf; rw [Nat.blt_eq.mpr h]; rfl
theorem rwf_hi {c : Nat → Nat} {sg : Bool} : rwf c sg 10 = .int (i32 (b2i sg)) := rfl
theorem ne_c {w : Wt} {i j : Ix} {c d : Ce} (h1 : w i = some c) (h2 : w j = some d) (h : c ≠ d) : i ≠ j := fun e => h (by subst e; exact Option.some.inj (h1.symm.trans h2))
theorem c_Drum_code (G : Gt) {ad : Ix → Nat} {w : Wt} {d : Nat} (hd : d < 10) : Mt G y_Drum_code w_Drum_code 0 0 0 [.int (i32 d)] ad w (ex (some (.int (i32 (cod d)))) ad w) noT := by
  refine Mt.to [some (.int (i32 d))] (fun K hk hR hin => ?_)
  have h5 : d % 5 < 5 := Nat.mod_lt _ (by decide)
  have hp : 2 ^ (d % 5) ≤ 16 := by
    have : ∀ k, k < 5 → 2 ^ k ≤ 16 := by decide
    exact this _ h5
  refine r_iconst hk (dk_at D_Drum_code 0 rfl) ?_
  refine r_iload_n (i := 0) hk (dk_at D_Drum_code 1 rfl) rfl rfl ?_
  refine r_iconst hk (dk_at D_Drum_code 2 rfl) ?_
  refine r_irem hk (dk_at D_Drum_code 3 rfl) (by omega) (by omega) ?_
  refine r_topi (x' := ((d % 5 : Nat) : Int)) (by omega) ?_
  refine r_ishl hk (dk_at D_Drum_code 4 rfl) (shl1 _ (by omega)) ?_
  refine r_iload_n (i := 0) hk (dk_at D_Drum_code 5 rfl) rfl rfl ?_
  refine r_iconst hk (dk_at D_Drum_code 6 rfl) ?_
  refine r_icmp_ge (t := 15) hk (dk_at D_Drum_code 7 rfl) (by decide) (by omega) (by omega) (fun c_7 => ?_) (fun c_7 => ?_)
  · have e : cod d = 2 ^ (d % 5) + 64 := by unfold cod; rw [if_neg (by omega)]
    rw [e]
    refine r_bipush hk (dk_at D_Drum_code 10 rfl) (by decide) ?_
    first | refine r_ior hk (dk_at D_Drum_code 11 rfl) (or32 _ h5) ?_ | refine r_ior hk (dk_at D_Drum_code 11 rfl) (or64 _ h5) ?_
    refine r_i2b hk (dk_at D_Drum_code 12 rfl) (by omega) ?_
    exact r_zret hk (dk_at D_Drum_code 13 rfl) (nbyte (by omega)) ex.rf
  · have e : cod d = 2 ^ (d % 5) + 32 := by unfold cod; rw [if_pos (by omega)]
    rw [e]
    refine r_bipush hk (dk_at D_Drum_code 8 rfl) (by decide) ?_
    refine r_goto (t := 17) hk (dk_at D_Drum_code 9 rfl) (by decide) ?_
    first | refine r_ior hk (dk_at D_Drum_code 11 rfl) (or32 _ h5) ?_ | refine r_ior hk (dk_at D_Drum_code 11 rfl) (or64 _ h5) ?_
    refine r_i2b hk (dk_at D_Drum_code 12 rfl) (by omega) ?_
    exact r_zret hk (dk_at D_Drum_code 13 rfl) (nbyte (by omega)) ex.rf
theorem c_Drum_digit (G : Gt) {ad : Ix → Nat} {w : Wt} {c : Nat} (hc : c < 128) : Mt G y_Drum_digit w_Drum_digit 1 0 0 [.int (i32 c)] ad w (ex (some (.int (i32 (deco c)))) ad w) noT := by
  refine Mt.to [some (.int (i32 c)), none, none] (fun K hk hR hin => ?_)
  have loop : ∀ n : Nat, n ≤ 10 → ∀ u k : Int, u = fnd c n → k = (n : Int) → V G K 3 (QE G K (ex (some (.int (i32 (deco c)))) ad w) noT 0 0) 0 0 4 [some (.int (i32 c)), some (.int (i32 u)), some (.int (i32 k))] [] ad w := by
    refine nup 10 (fun n hn ih u k hu hkk => ?_)
    refine r_iload_n (i := 2) hk (dk_at D_Drum_digit 4 rfl) rfl rfl ?_
    refine r_bipush hk (dk_at D_Drum_digit 5 rfl) (by decide) ?_
    refine r_icmp_ge (t := 26) hk (dk_at D_Drum_digit 6 rfl) (by decide) (by omega) (by omega) (fun c_7 => ?_) (fun c_7 => ?_)
    · obtain rfl : n = 10 := by omega
      subst hu
      refine r_iload_n (i := 1) hk (dk_at D_Drum_digit 15 rfl) rfl rfl ?_
      exact r_iret hk (dk_at D_Drum_digit 16 rfl) ex.rf
    · subst hkk
      have hcl := cod_lt n (by omega)
      refine r_iload_n (i := 2) hk (dk_at D_Drum_digit 7 rfl) rfl rfl ?_
      refine r_callS hk hR m_Drum_code s_Drum_code ml_Drum_16 (dk_at D_Drum_digit 8 rfl) (c_Drum_code G (d := n) (by omega)) ?_
      refine r_iload_n (i := 0) hk (dk_at D_Drum_digit 9 rfl) rfl rfl ?_
      refine r_icmp_ne (t := 20) hk (dk_at D_Drum_digit 10 rfl) (by decide) (by omega) (by omega) (fun c_15 => ?_) (fun c_15 => ?_)
      · refine r_iinc (i := 2) (ls' := [_, _, _]) hk (dk_at D_Drum_digit 13 rfl) rfl rfl rfl rfl ?_
        refine r_goto (t := 4) hk (dk_at D_Drum_digit 14 rfl) (by decide) ?_
        exact ih (by omega) _ _ (by simp only [fnd]; first | rw [if_pos (by omega)] | (rw [if_neg (by omega)]; exact hu)) (by omega)
      · have e : cod n = c := by omega
        refine r_iload_n (i := 2) hk (dk_at D_Drum_digit 11 rfl) rfl rfl ?_
        refine r_istore_n (i := 1) (ls' := [_, _, _]) hk (dk_at D_Drum_digit 12 rfl) rfl rfl rfl rfl ?_
        refine r_iinc (i := 2) (ls' := [_, _, _]) hk (dk_at D_Drum_digit 13 rfl) rfl rfl rfl rfl ?_
        refine r_goto (t := 4) hk (dk_at D_Drum_digit 14 rfl) (by decide) ?_
        exact ih (by omega) _ _ (by simp only [fnd]; first | rw [if_pos (by omega)] | (rw [if_neg (by omega)]; exact hu)) (by omega)
  refine r_iconst hk (dk_at D_Drum_digit 0 rfl) ?_
  refine r_istore_n (i := 1) (ls' := [_, _, _]) hk (dk_at D_Drum_digit 1 rfl) rfl rfl rfl rfl ?_
  refine r_iconst hk (dk_at D_Drum_digit 2 rfl) ?_
  refine r_istore_n (i := 2) (ls' := [_, _, _]) hk (dk_at D_Drum_digit 3 rfl) rfl rfl rfl rfl ?_
  exact loop 0 (Nat.zero_le _) _ _ rfl rfl
theorem c_Drum_isValid (G : Gt) {ad : Ix → Nat} {w : Wt} {t a : Nat} {c : Nat → Nat} {sg : Bool} (hD : w (1, 0) = some (dr ad t)) (hC : w (2, 0) = some (cdf ad)) (hW : w (3, a) = some (rw_ c sg)) (ha : a < 200) (hc : ∀ k, k < 10 → c k < 128) : Mt G y_Drum_isValid w_Drum_isValid 2 0 0 [.ref (ad (1, 0)), .int (i32 a)] ad w (ex (some (.int (i32 (b2i (vld c))))) ad w) noT := by
  refine Mt.to [some (.ref (ad (1, 0))), some (.int (i32 a)), none] (fun K hk hR hin => ?_)
  have loop : ∀ n : Nat, n ≤ 10 → ∀ k : Int, k = (n : Int) → (∀ m, m < n → deco (c m) ≠ -1) → V G K 3 (QE G K (ex (some (.int (i32 (b2i (vld c))))) ad w) noT 0 0) 0 0 2 [some (.ref (ad (1, 0))), some (.int (i32 a)), some (.int (i32 k))] [] ad w := by
    refine nup 10 (fun n hn ih k hkk hv => ?_)
    refine r_iload_n (i := 2) hk (dk_at D_Drum_isValid 2 rfl) rfl rfl ?_
    refine r_bipush hk (dk_at D_Drum_isValid 3 rfl) (by decide) ?_
    refine r_icmp_ge (t := 31) hk (dk_at D_Drum_isValid 4 rfl) (by decide) (by omega) (by omega) (fun c_5 => ?_) (fun c_5 => ?_)
    · have e : vld c = true := vld_of (fun m hm => hv m (by omega))
      rw [e]
      refine r_iconst hk (dk_at D_Drum_isValid 18 rfl) ?_
      first | exact r_bret (b := true) hk (dk_at D_Drum_isValid 19 rfl) ex.rf | exact r_bret (b := false) hk (dk_at D_Drum_isValid 19 rfl) ex.rf
    · have hdr := deco_r (c n)
      refine r_aload_n (i := 0) hk (dk_at D_Drum_isValid 5 rfl) rfl rfl ?_
      refine r_get hk fl_Drum_11 (dk_at D_Drum_isValid 6 rfl) ?_
      refine r_iload_n (i := 1) hk (dk_at D_Drum_isValid 7 rfl) rfl rfl ?_
      refine r_aaload (ix := a) hk (dk_at D_Drum_isValid 8 rfl) ?_
      refine r_iload_n (i := 2) hk (dk_at D_Drum_isValid 9 rfl) rfl rfl ?_
      refine r_baload (ix := n) hk (dk_at D_Drum_isValid 10 rfl) ?_
      refine r_top (rwf_lo (by omega)) ?_
      refine r_callS hk hR m_Drum_digit s_Drum_digit ml_Drum_20 (dk_at D_Drum_isValid 11 rfl) (c_Drum_digit G (hc n (by omega))) ?_
      refine r_iconst hk (dk_at D_Drum_isValid 12 rfl) ?_
      refine r_icmp_ne (t := 25) hk (dk_at D_Drum_isValid 13 rfl) (by decide) (by omega) (by omega) (fun c_20 => ?_) (fun c_20 => ?_)
      · refine r_iinc (i := 2) (ls' := [_, _, _]) hk (dk_at D_Drum_isValid 16 rfl) rfl rfl rfl rfl ?_
        refine r_goto (t := 2) hk (dk_at D_Drum_isValid 17 rfl) (by decide) ?_
        exact ih (by omega) _ (by omega) (fun m hm => by by_cases e : m = n; (subst e; exact c_20); exact hv m (by omega))
      · have e : vld c = false := vld_f (k := n) (by omega) (by omega)
        rw [e]
        refine r_iconst hk (dk_at D_Drum_isValid 14 rfl) ?_
        first | exact r_bret (b := true) hk (dk_at D_Drum_isValid 15 rfl) ex.rf | exact r_bret (b := false) hk (dk_at D_Drum_isValid 15 rfl) ex.rf
  refine r_iconst hk (dk_at D_Drum_isValid 0 rfl) ?_
  refine r_istore_n (i := 2) (ls' := [_, _, _]) hk (dk_at D_Drum_isValid 1 rfl) rfl rfl rfl rfl ?_
  exact loop 0 (Nat.zero_le _) _ rfl (fun m hm => by omega)
theorem c_Drum_fetch (G : Gt) {ad : Ix → Nat} {w : Wt} {t a : Nat} {c : Nat → Nat} {sg : Bool} {i j : Ix} {x : Value} {g : Nat → Value} (hD : w (1, 0) = some (dr ad t)) (hC : w (2, 0) = some (cdf ad)) (hW : w (3, a) = some (rw_ c sg)) (ha : a < 200) (hc : ∀ k, k < 10 → c k < 128) (hv : vld c = true) (h1 : w i = some (.inl (3, [.ref (ad j), x]))) (h2 : w j = some (.inr (0, 10, g))) : Mt G y_Drum_fetch w_Drum_fetch 2 0 0 [.ref (ad (1, 0)), .int (i32 a), .ref (ad i)] ad w (ex none ad (up (up w j (some (da (val c)))) i (some (wo ad j sg)))) noT := by
  have hij := ij_ne h1 h2
  have hjD : (1, 0) ≠ j := ij_ne hD h2
  have hjC : (2, 0) ≠ j := ne_c hC h2 (by intro e; cases e)
  have hjW : (3, a) ≠ j := ne_c hW h2 (by intro e; cases e)
  refine Mt.to [some (.ref (ad (1, 0))), some (.int (i32 a)), some (.ref (ad i)), none] (fun K hk hR hin => ?_)
  have loop : ∀ n : Nat, n ≤ 10 → ∀ (k : Int) (f : Nat → Value), k = (n : Int) → (∀ m, m < n → f m = dg (val c) m) → V G K 4 (QE G K (ex none ad (up (up w j (some (da (val c)))) i (some (wo ad j sg)))) noT 0 0) 0 0 2 [some (.ref (ad (1, 0))), some (.int (i32 a)), some (.ref (ad i)), some (.int (i32 k))] [] ad (up w j (some (.inr (0, 10, f)))) := by
    refine nup 10 (fun n hn ih k f hkk hf => ?_)
    refine r_iload_n (i := 3) hk (dk_at D_Drum_fetch 2 rfl) rfl rfl ?_
    refine r_bipush hk (dk_at D_Drum_fetch 3 rfl) (by decide) ?_
    refine r_icmp_ge (t := 31) hk (dk_at D_Drum_fetch 4 rfl) (by decide) (by omega) (by omega) (fun c_5 => ?_) (fun c_5 => ?_)
    · obtain rfl : n = 10 := by omega
      refine r_arr hf ?_
      refine r_aload_n (i := 2) hk (dk_at D_Drum_fetch 18 rfl) rfl rfl ?_
      refine r_aload_n (i := 0) hk (dk_at D_Drum_fetch 19 rfl) rfl rfl ?_
      refine r_get hk fl_Drum_11 (dk_at D_Drum_fetch 20 rfl) ?_ (hw := (up_n hjD).trans hD)
      refine r_iload_n (i := 1) hk (dk_at D_Drum_fetch 21 rfl) rfl rfl ?_
      refine r_aaload (ix := a) hk (dk_at D_Drum_fetch 22 rfl) ?_ (hw := (up_n hjC).trans hC)
      refine r_bipush hk (dk_at D_Drum_fetch 23 rfl) (by decide) ?_
      refine r_baload (ix := 10) hk (dk_at D_Drum_fetch 24 rfl) ?_ (hw := (up_n hjW).trans hW)
      refine r_top rwf_hi ?_
      have hb := b2i_r sg
      refine r_iconst hk (dk_at D_Drum_fetch 25 rfl) ?_
      refine r_icmp_ne (t := 49) hk (dk_at D_Drum_fetch 26 rfl) (by decide) (by omega) (by omega) (fun c_42 => ?_) (fun c_42 => ?_)
      · have e : sg = false := by cases sg <;> first | rfl | (exfalso; revert c_42; decide)
        subst e
        refine r_iconst hk (dk_at D_Drum_fetch 29 rfl) ?_
        first
          | refine r_putN (fs' := [_, .int (i32 (b2i true))]) hk fl_Drum_30 ft_Word_1 (dk_at D_Drum_fetch 30 rfl) ?_ (hw := (up_n hij).trans h1)
          | refine r_putN (fs' := [_, .int (i32 (b2i false))]) hk fl_Drum_30 ft_Word_1 (dk_at D_Drum_fetch 30 rfl) ?_ (hw := (up_n hij).trans h1)
        exact r_vret hk (dk_at D_Drum_fetch 31 rfl) ex.rf
      · have e : sg = true := by cases sg <;> first | rfl | (exfalso; revert c_42; decide)
        subst e
        refine r_iconst hk (dk_at D_Drum_fetch 27 rfl) ?_
        refine r_goto (t := 50) hk (dk_at D_Drum_fetch 28 rfl) (by decide) ?_
        first
          | refine r_putN (fs' := [_, .int (i32 (b2i true))]) hk fl_Drum_30 ft_Word_1 (dk_at D_Drum_fetch 30 rfl) ?_ (hw := (up_n hij).trans h1)
          | refine r_putN (fs' := [_, .int (i32 (b2i false))]) hk fl_Drum_30 ft_Word_1 (dk_at D_Drum_fetch 30 rfl) ?_ (hw := (up_n hij).trans h1)
        exact r_vret hk (dk_at D_Drum_fetch 31 rfl) ex.rf
    · refine r_aload_n (i := 2) hk (dk_at D_Drum_fetch 5 rfl) rfl rfl ?_
      refine r_getN hk fl_Drum_24 (dk_at D_Drum_fetch 6 rfl) ?_ (hw := (up_n hij).trans h1)
      refine r_iload_n (i := 3) hk (dk_at D_Drum_fetch 7 rfl) rfl rfl ?_
      refine r_aload_n (i := 0) hk (dk_at D_Drum_fetch 8 rfl) rfl rfl ?_
      refine r_get hk fl_Drum_11 (dk_at D_Drum_fetch 9 rfl) ?_ (hw := (up_n hjD).trans hD)
      refine r_iload_n (i := 1) hk (dk_at D_Drum_fetch 10 rfl) rfl rfl ?_
      refine r_aaload (ix := a) hk (dk_at D_Drum_fetch 11 rfl) ?_ (hw := (up_n hjC).trans hC)
      refine r_iload_n (i := 3) hk (dk_at D_Drum_fetch 12 rfl) rfl rfl ?_
      refine r_baload (ix := n) hk (dk_at D_Drum_fetch 13 rfl) ?_ (hw := (up_n hjW).trans hW)
      refine r_top (rwf_lo (by omega)) ?_
      refine r_callS hk hR m_Drum_digit s_Drum_digit ml_Drum_20 (dk_at D_Drum_fetch 14 rfl) (c_Drum_digit G (hc n (by omega))) ?_
      refine r_iastoreU (ix := n) hk (dk_at D_Drum_fetch 15 rfl) ?_
      refine r_iinc (i := 3) (ls' := [_, _, _, _]) hk (dk_at D_Drum_fetch 16 rfl) rfl rfl rfl rfl ?_
      refine r_goto (t := 2) hk (dk_at D_Drum_fetch 17 rfl) (by decide) ?_
      have hd0 := deco_r (c n)
      have hd1 := vld_t hv n (by omega)
      exact ih (by omega) _ _ (by omega) (ext_s hf (dg_eq (by rw [val_dgt c n (by omega)]; omega)))
  refine r_iconst hk (dk_at D_Drum_fetch 0 rfl) ?_
  refine r_istore_n (i := 3) (ls' := [_, _, _, _]) hk (dk_at D_Drum_fetch 1 rfl) rfl rfl rfl rfl ?_
  refine r_in h2 ?_
  exact loop 0 (Nat.zero_le _) _ _ rfl ext_0
theorem c_Drum_put (G : Gt) {ad : Ix → Nat} {w : Wt} {t a v : Nat} {sg : Bool} {i j : Ix} {g : Nat → Value} (hD : w (1, 0) = some (dr ad t)) (hC : w (2, 0) = some (cdf ad)) (hW : w (3, a) = some (.inr (3, 11, g))) (ha : a < 200) (h1 : w i = some (wo ad j sg)) (h2 : w j = some (da v)) : Mt G y_Drum_put w_Drum_put 1 0 0 [.ref (ad (1, 0)), .int (i32 a), .ref (ad i)] ad w (ex none ad (up w (3, a) (some (rw_ (fun k => cod (dgt v k)) sg)))) noT := by
  have hDa : ((1, 0) : Ix) ≠ (3, a) := by intro e; cases e
  have hCa : ((2, 0) : Ix) ≠ (3, a) := by intro e; cases e
  have hia : i ≠ (3, a) := ij_ne h1 hW
  have hja : j ≠ (3, a) := ne_c h2 hW (by intro e; cases e)
  refine Mt.to [some (.ref (ad (1, 0))), some (.int (i32 a)), some (.ref (ad i)), none] (fun K hk hR hin => ?_)
  have loop : ∀ n : Nat, n ≤ 10 → ∀ (k : Int) (f : Nat → Value), k = (n : Int) → (∀ m, m < n → f m = rwf (fun k => cod (dgt v k)) sg m) → V G K 4 (QE G K (ex none ad (up w (3, a) (some (rw_ (fun k => cod (dgt v k)) sg)))) noT 0 0) 0 0 2 [some (.ref (ad (1, 0))), some (.int (i32 a)), some (.ref (ad i)), some (.int (i32 k))] [] ad (up w (3, a) (some (.inr (3, 11, f)))) := by
    refine nup 10 (fun n hn ih k f hkk hf => ?_)
    refine r_iload_n (i := 3) hk (dk_at D_Drum_put 2 rfl) rfl rfl ?_
    refine r_bipush hk (dk_at D_Drum_put 3 rfl) (by decide) ?_
    refine r_icmp_ge (t := 31) hk (dk_at D_Drum_put 4 rfl) (by decide) (by omega) (by omega) (fun c_5 => ?_) (fun c_5 => ?_)
    · obtain rfl : n = 10 := by omega
      refine r_aload_n (i := 0) hk (dk_at D_Drum_put 18 rfl) rfl rfl ?_
      refine r_get hk fl_Drum_11 (dk_at D_Drum_put 19 rfl) ?_ (hw := (up_n hDa).trans hD)
      refine r_iload_n (i := 1) hk (dk_at D_Drum_put 20 rfl) rfl rfl ?_
      refine r_aaload (ix := a) hk (dk_at D_Drum_put 21 rfl) ?_ (hw := (up_n hCa).trans hC)
      refine r_bipush hk (dk_at D_Drum_put 22 rfl) (by decide) ?_
      refine r_aload_n (i := 2) hk (dk_at D_Drum_put 23 rfl) rfl rfl ?_
      refine r_getN hk fl_Drum_30 (dk_at D_Drum_put 24 rfl) ?_ (hw := (up_n hia).trans h1)
      refine r_if_eqB (t := 50) hk (dk_at D_Drum_put 25 rfl) (by decide) (fun c_43 => ?_) (fun c_43 => ?_)
      · subst c_43
        refine r_iconst hk (dk_at D_Drum_put 28 rfl) ?_
        refine r_i2b hk (dk_at D_Drum_put 29 rfl) (by omega) ?_
        refine r_bastoreU (ix := 10) hk (dk_at D_Drum_put 30 rfl) ?_
        refine r_arr (ext_s hf rfl) ?_
        exact r_vret hk (dk_at D_Drum_put 31 rfl) ex.rf
      · subst c_43
        refine r_iconst hk (dk_at D_Drum_put 26 rfl) ?_
        refine r_goto (t := 51) hk (dk_at D_Drum_put 27 rfl) (by decide) ?_
        refine r_i2b hk (dk_at D_Drum_put 29 rfl) (by omega) ?_
        refine r_bastoreU (ix := 10) hk (dk_at D_Drum_put 30 rfl) ?_
        refine r_arr (ext_s hf rfl) ?_
        exact r_vret hk (dk_at D_Drum_put 31 rfl) ex.rf
    · have hdl := dgt_lt v n
      have hcl := cod_lt _ hdl
      refine r_aload_n (i := 0) hk (dk_at D_Drum_put 5 rfl) rfl rfl ?_
      refine r_get hk fl_Drum_11 (dk_at D_Drum_put 6 rfl) ?_ (hw := (up_n hDa).trans hD)
      refine r_iload_n (i := 1) hk (dk_at D_Drum_put 7 rfl) rfl rfl ?_
      refine r_aaload (ix := a) hk (dk_at D_Drum_put 8 rfl) ?_ (hw := (up_n hCa).trans hC)
      refine r_iload_n (i := 3) hk (dk_at D_Drum_put 9 rfl) rfl rfl ?_
      refine r_aload_n (i := 2) hk (dk_at D_Drum_put 10 rfl) rfl rfl ?_
      refine r_getN hk fl_Drum_24 (dk_at D_Drum_put 11 rfl) ?_ (hw := (up_n hia).trans h1)
      refine r_iload_n (i := 3) hk (dk_at D_Drum_put 12 rfl) rfl rfl ?_
      refine r_iaload (ix := n) hk (dk_at D_Drum_put 13 rfl) ?_ (hw := (up_n hja).trans h2)
      refine r_callS hk hR m_Drum_code s_Drum_code ml_Drum_16 (dk_at D_Drum_put 14 rfl) (c_Drum_code G hdl) ?_
      refine r_bastoreU (ix := n) hk (dk_at D_Drum_put 15 rfl) ?_
      refine r_iinc (i := 3) (ls' := [_, _, _, _]) hk (dk_at D_Drum_put 16 rfl) rfl rfl rfl rfl ?_
      refine r_goto (t := 2) hk (dk_at D_Drum_put 17 rfl) (by decide) ?_
      exact ih (by omega) _ _ (by omega) (ext_s hf (rwf_lo (c := fun k => cod (dgt v k)) (k := n) (by omega)).symm)
  refine r_iconst hk (dk_at D_Drum_put 0 rfl) ?_
  refine r_istore_n (i := 3) (ls' := [_, _, _, _]) hk (dk_at D_Drum_put 1 rfl) rfl rfl rfl rfl ?_
  refine r_in hW ?_
  exact loop 0 (Nat.zero_le _) _ _ rfl ext_0
theorem c_Drum_pass (G : Gt) {ad : Ix → Nat} {w : Wt} {t n : Nat} (hD : w (1, 0) = some (dr ad t)) (hn : n < 1000000) : Mt G y_Drum_pass w_Drum_pass 0 0 0 [.ref (ad (1, 0)), .int (i32 n)] ad w (ex none ad (up w (1, 0) (some (dr ad (t + n))))) noT := by
  refine Mt.to [some (.ref (ad (1, 0))), some (.int (i32 n))] (fun K hk hR hin => ?_)
  refine r_aload_n (i := 0) hk (dk_at D_Drum_pass 0 rfl) rfl rfl ?_
  refine r_dup hk (dk_at D_Drum_pass 1 rfl) rfl ?_
  refine r_get hk fl_Drum_34 (dk_at D_Drum_pass 2 rfl) ?_
  refine r_iload_n (i := 1) hk (dk_at D_Drum_pass 3 rfl) rfl rfl ?_
  refine r_i2l hk (dk_at D_Drum_pass 4 rfl) (by omega) ?_
  refine r_ladd hk (dk_at D_Drum_pass 5 rfl) ?_
  refine r_topl (x' := ((t + n : Nat) : Int)) (by omega) ?_
  refine r_put (fs' := [_, _]) hk fl_Drum_34 ft_Drum_1 (dk_at D_Drum_pass 6 rfl) ?_
  exact r_vret hk (dk_at D_Drum_pass 7 rfl) ex.rf
/-- the time behind an access to address a -/
def comeT (a t : Nat) : Nat := t + (a % 50 + 50 - t % 50) % 50 + 1
theorem c_Drum_come (G : Gt) {ad : Ix → Nat} {w : Wt} {t a : Nat} (hD : w (1, 0) = some (dr ad t)) (ha : a < 200) (ht : t < 1000000000000) : Mt G y_Drum_come w_Drum_come 1 0 0 [.ref (ad (1, 0)), .int (i32 a)] ad w (ex none ad (up w (1, 0) (some (dr ad (comeT a t))))) noT := by
  refine Mt.to [some (.ref (ad (1, 0))), some (.int (i32 a)), none] (fun K hk hR hin => ?_)
  refine r_iload_n (i := 1) hk (dk_at D_Drum_come 0 rfl) rfl rfl ?_
  refine r_bipush hk (dk_at D_Drum_come 1 rfl) (by decide) ?_
  refine r_irem hk (dk_at D_Drum_come 2 rfl) (by omega) (by omega) ?_
  refine r_aload_n (i := 0) hk (dk_at D_Drum_come 3 rfl) rfl rfl ?_
  refine r_get hk fl_Drum_34 (dk_at D_Drum_come 4 rfl) ?_
  refine r_ldc2 hk kl_Drum_38 (dk_at D_Drum_come 5 rfl) ?_
  refine r_lrem hk (dk_at D_Drum_come 6 rfl) (by omega) (by omega) ?_
  refine r_l2i hk (dk_at D_Drum_come 7 rfl) ?_
  refine r_isub hk (dk_at D_Drum_come 8 rfl) ?_
  refine r_istore_n (i := 2) (ls' := [_, _, _]) hk (dk_at D_Drum_come 9 rfl) rfl rfl rfl rfl ?_
  refine r_aload_n (i := 0) hk (dk_at D_Drum_come 10 rfl) rfl rfl ?_
  refine r_iload_n (i := 2) hk (dk_at D_Drum_come 11 rfl) rfl rfl ?_
  refine r_if_ge (t := 27) hk (dk_at D_Drum_come 12 rfl) (by decide) (by omega) (fun c_17 => ?_) (fun c_17 => ?_)
  · refine r_iload_n (i := 2) hk (dk_at D_Drum_come 17 rfl) rfl rfl ?_
    refine r_iconst hk (dk_at D_Drum_come 18 rfl) ?_
    refine r_iadd hk (dk_at D_Drum_come 19 rfl) ?_
    refine r_topi (x' := (((a % 50 + 50 - t % 50) % 50 + 1 : Nat) : Int)) (by omega) ?_
    refine r_callVv hk hR m_Drum_pass s_Drum_pass ml_Drum_40 (dk_at D_Drum_come 20 rfl) (c_Drum_pass G (n := (a % 50 + 50 - t % 50) % 50 + 1) hD (by omega)) ?_
    exact r_vret hk (dk_at D_Drum_come 21 rfl) ex.rf
  · refine r_iload_n (i := 2) hk (dk_at D_Drum_come 13 rfl) rfl rfl ?_
    refine r_bipush hk (dk_at D_Drum_come 14 rfl) (by decide) ?_
    refine r_iadd hk (dk_at D_Drum_come 15 rfl) ?_
    refine r_goto (t := 28) hk (dk_at D_Drum_come 16 rfl) (by decide) ?_
    refine r_iconst hk (dk_at D_Drum_come 18 rfl) ?_
    refine r_iadd hk (dk_at D_Drum_come 19 rfl) ?_
    refine r_topi (x' := (((a % 50 + 50 - t % 50) % 50 + 1 : Nat) : Int)) (by omega) ?_
    refine r_callVv hk hR m_Drum_pass s_Drum_pass ml_Drum_40 (dk_at D_Drum_come 20 rfl) (c_Drum_pass G (n := (a % 50 + 50 - t % 50) % 50 + 1) hD (by omega)) ?_
    exact r_vret hk (dk_at D_Drum_come 21 rfl) ex.rf
