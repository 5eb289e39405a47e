/-! digits, more -/
theorem dgt_ge {v k : Nat} (h : v < 10 ^ k) : dgt v k = 0 := by unfold dgt; rw [Nat.div_eq_of_lt h]
theorem p_le {a b : Nat} (h : a ≤ b) : 10 ^ a ≤ 10 ^ b := Nat.pow_le_pow_right (by decide) h
theorem dgt_big {v k n : Nat} (h : v < 10 ^ n) (hk : n ≤ k) : dgt v k = 0 := dgt_ge (Nat.lt_of_lt_of_le h (p_le hk))
theorem dgt_div (v n k : Nat) : dgt (v / 10 ^ n) k = dgt v (n + k) := by
  unfold dgt; rw [Nat.div_div_eq_div_mul, ← Nat.pow_add]
theorem dgt_mul (v n k : Nat) (h : n ≤ k) : dgt (v * 10 ^ n) k = dgt v (k - n) := by
  obtain ⟨m, rfl⟩ : ∃ m, k = n + m := ⟨k - n, by omega⟩
  rw [← dgt_div, Nat.mul_div_cancel _ (Nat.pow_pos (by decide)), Nat.add_sub_cancel_left]
theorem dgt_mul0 (v n k : Nat) (h : k < n) : dgt (v * 10 ^ n) k = 0 := by
  obtain ⟨m, rfl⟩ : ∃ m, n = k + 1 + m := ⟨n - k - 1, by omega⟩
  unfold dgt
  rw [show 10 ^ (k + 1 + m) = 10 ^ m * 10 * 10 ^ k by rw [show k + 1 + m = m + (1 + k) by omega, Nat.pow_add, Nat.pow_add, Nat.pow_one, Nat.mul_assoc], ← Nat.mul_assoc, Nat.mul_div_cancel _ (Nat.pow_pos (by decide)), ← Nat.mul_assoc, Nat.mul_mod_left]
theorem dgt_modp (v n k : Nat) (h : k < n) : dgt (v % 10 ^ n) k = dgt v k := by
  obtain ⟨m, rfl⟩ : ∃ m, n = k + (m + 1) := ⟨n - k - 1, by omega⟩
  unfold dgt
  rw [Nat.pow_add, Nat.mod_mul_right_div_self, Nat.pow_succ, Nat.mod_mul_left_mod]
theorem low_add (A v m : Nat) (h : m < 10) : A / 10 ^ m % 10 = (A + v * 10 ^ 10) / 10 ^ m % 10 := by
  obtain ⟨b, hb⟩ : ∃ b, (10 : Nat) ^ 10 = b * 10 * 10 ^ m := ⟨10 ^ (9 - m), by rw [Nat.mul_assoc, ← Nat.pow_succ', ← Nat.pow_add]; congr 1; omega⟩
  rw [hb, ← Nat.mul_assoc, Nat.add_mul_div_right _ _ (Nat.pow_pos (by decide)), ← Nat.mul_assoc, Nat.add_mul_mod_self_right]
theorem T20 : (10 : Nat) ^ 20 = 100000000000000000000 := by decide
theorem T10 : (10 : Nat) ^ 10 = 10000000000 := by decide
/-! DrumMachine.Accumulator -/
abbrev ac (ad : Ix → Nat) (mn ov : Bool) : Ce := .inl (2, [.ref (ad (5, 0)), .int (i32 (b2i mn)), .int (i32 (b2i ov)), .ref (ad (6, 0)), .ref (ad (8, 0))])
abbrev aa (A : Nat) : Ce := .inr (0, 20, dg A)
theorem h45 : ((4, 0) : Ix) ≠ (5, 0) := by intro e; cases e
theorem c_Acc_empty (G : Gt) {ad : Ix → Nat} {w : Wt} {mn ov : Bool} {g : Nat → Value} (hA : w (4, 0) = some (ac ad mn ov)) (h5 : w (5, 0) = some (.inr (0, 20, g))) : Mt G y_Acc_empty w_Acc_empty 0 0 0 [.ref (ad (4, 0))] ad w (ex none ad (up w (5, 0) (some (aa 0)))) noT := by
  refine Mt.to [some (.ref (ad (4, 0))), none] (fun K hk hR hin => ?_)
  have loop : ∀ n : Nat, n ≤ 20 → ∀ (k : Int) (f : Nat → Value), k = (n : Int) → (∀ m, m < n → f m = dg 0 m) → V G K 2 (QE G K (ex none ad (up w (5, 0) (some (aa 0)))) noT 0 0) 0 0 2 [some (.ref (ad (4, 0))), some (.int (i32 k))] [] ad (up w (5, 0) (some (.inr (0, 20, f)))) := by
    refine nup 20 (fun n hn ih k f hkk hf => ?_)
    refine r_iload_n (i := 1) hk (dk_at D_Acc_empty 2 rfl) rfl rfl ?_
    refine r_aload_n (i := 0) hk (dk_at D_Acc_empty 3 rfl) rfl rfl ?_
    refine r_get hk fl_Acc_9 (dk_at D_Acc_empty 4 rfl) ?_ (hw := (up_n h45).trans hA)
    refine r_alen hk (dk_at D_Acc_empty 5 rfl) ?_
    refine r_icmp_ge (t := 24) hk (dk_at D_Acc_empty 6 rfl) (by decide) (by omega) (by omega) (fun c_8 => ?_) (fun c_8 => ?_)
    · obtain rfl : n = 20 := by omega
      refine r_arr hf ?_
      exact r_vret hk (dk_at D_Acc_empty 14 rfl) ex.rf
    · refine r_aload_n (i := 0) hk (dk_at D_Acc_empty 7 rfl) rfl rfl ?_
      refine r_get hk fl_Acc_9 (dk_at D_Acc_empty 8 rfl) ?_ (hw := (up_n h45).trans hA)
      refine r_iload_n (i := 1) hk (dk_at D_Acc_empty 9 rfl) rfl rfl ?_
      refine r_iconst hk (dk_at D_Acc_empty 10 rfl) ?_
      refine r_iastoreU (ix := n) hk (dk_at D_Acc_empty 11 rfl) ?_
      refine r_iinc (i := 1) (ls' := [_, _]) hk (dk_at D_Acc_empty 12 rfl) rfl rfl rfl rfl ?_
      refine r_goto (t := 2) hk (dk_at D_Acc_empty 13 rfl) (by decide) ?_
      exact ih (by omega) _ _ (by omega) (ext_s hf (dg_eq (by unfold dgt; rw [Nat.zero_div]; rfl)))
  refine r_iconst hk (dk_at D_Acc_empty 0 rfl) ?_
  refine r_istore_n (i := 1) (ls' := [_, _]) hk (dk_at D_Acc_empty 1 rfl) rfl rfl rfl rfl ?_
  refine r_in h5 ?_
  exact loop 0 (Nat.zero_le _) _ _ rfl ext_0
theorem c_Acc_reset (G : Gt) {ad : Ix → Nat} {w : Wt} {A : Nat} {mn ov : Bool} (hA : w (4, 0) = some (ac ad mn ov)) (h5 : w (5, 0) = some (aa A)) : Mt G y_Acc_reset w_Acc_reset 1 0 0 [.ref (ad (4, 0))] ad w (ex none ad (up (up w (5, 0) (some (aa 0))) (4, 0) (some (ac ad false ov)))) noT := by
  refine Mt.to [some (.ref (ad (4, 0)))] (fun K hk hR hin => ?_)
  refine r_aload_n (i := 0) hk (dk_at D_Acc_reset 0 rfl) rfl rfl ?_
  refine r_callVv hk hR m_Acc_empty s_Acc_empty ml_Acc_25 (dk_at D_Acc_reset 1 rfl) (c_Acc_empty G hA h5) ?_
  refine r_aload_n (i := 0) hk (dk_at D_Acc_reset 2 rfl) rfl rfl ?_
  refine r_iconst hk (dk_at D_Acc_reset 3 rfl) ?_
  refine r_put (fs' := [_, _, _, _, _]) hk fl_Acc_28 ft_Acc_1 (dk_at D_Acc_reset 4 rfl) ?_ (hw := (up_n h45).trans hA)
  exact r_vret hk (dk_at D_Acc_reset 5 rfl) ex.rf
theorem c_Acc_half (G : Gt) {ad : Ix → Nat} {w : Wt} {A : Nat} {mn ov : Bool} {i j : Ix} {u : Bool} {x : Value} {g : Nat → Value} (hA : w (4, 0) = some (ac ad mn ov)) (h5 : w (5, 0) = some (aa A)) (h1 : w i = some (.inl (3, [.ref (ad j), x]))) (h2 : w j = some (.inr (0, 10, g))) : Mt G y_Acc_half w_Acc_half 0 0 0 [.ref (ad (4, 0)), .int (i32 (b2i u)), .ref (ad i)] ad w (ex none ad (up (up w j (some (da (cond u (A / 10 ^ 10) (A % 10 ^ 10))))) i (some (wo ad j mn)))) noT := by
  have hij := ij_ne h1 h2
  have h4j : (4, 0) ≠ j := ij_ne hA h2
  have h5j : (5, 0) ≠ j := ne_c h5 h2 (by intro e; cases e)
  refine Mt.to [some (.ref (ad (4, 0))), some (.int (i32 (b2i u))), some (.ref (ad i)), none] (fun K hk hR hin => ?_)
  have loop : ∀ n : Nat, n ≤ 10 → ∀ (k : Int) (f : Nat → Value), k = (n : Int) → (∀ m, m < n → f m = dg (cond u (A / 10 ^ 10) (A % 10 ^ 10)) m) → V G K 4 (QE G K (ex none ad (up (up w j (some (da (cond u (A / 10 ^ 10) (A % 10 ^ 10))))) i (some (wo ad j mn)))) noT 0 0) 0 0 2 [some (.ref (ad (4, 0))), some (.int (i32 (b2i u))), some (.ref (ad i)), some (.int (i32 k))] [] ad (up w j (some (.inr (0, 10, f)))) := by
    refine nup 10 (fun n hn ih k f hkk hf => ?_)
    refine r_iload_n (i := 3) hk (dk_at D_Acc_half 2 rfl) rfl rfl ?_
    refine r_bipush hk (dk_at D_Acc_half 3 rfl) (by decide) ?_
    refine r_icmp_ge (t := 37) hk (dk_at D_Acc_half 4 rfl) (by decide) (by omega) (by omega) (fun c_5 => ?_) (fun c_5 => ?_)
    · obtain rfl : n = 10 := by omega
      refine r_arr hf ?_
      refine r_aload_n (i := 2) hk (dk_at D_Acc_half 21 rfl) rfl rfl ?_
      refine r_aload_n (i := 0) hk (dk_at D_Acc_half 22 rfl) rfl rfl ?_
      refine r_get hk fl_Acc_28 (dk_at D_Acc_half 23 rfl) ?_ (hw := (up_n h4j).trans hA)
      refine r_putN (fs' := [_, _]) hk fl_Acc_33 ft_Word_1 (dk_at D_Acc_half 24 rfl) ?_ (hn := b2i_n _) (hfit := b2i_fit _) (hw := (up_n hij).trans h1)
      exact r_vret hk (dk_at D_Acc_half 25 rfl) ex.rf
    · refine r_aload_n (i := 2) hk (dk_at D_Acc_half 5 rfl) rfl rfl ?_
      refine r_getN hk fl_Acc_32 (dk_at D_Acc_half 6 rfl) ?_ (hw := (up_n hij).trans h1)
      refine r_iload_n (i := 3) hk (dk_at D_Acc_half 7 rfl) rfl rfl ?_
      refine r_aload_n (i := 0) hk (dk_at D_Acc_half 8 rfl) rfl rfl ?_
      refine r_get hk fl_Acc_9 (dk_at D_Acc_half 9 rfl) ?_ (hw := (up_n h4j).trans hA)
      refine r_iload_n (i := 1) hk (dk_at D_Acc_half 10 rfl) rfl rfl ?_
      refine r_if_eqB (t := 28) hk (dk_at D_Acc_half 11 rfl) (by decide) (fun c_18 => ?_) (fun c_18 => ?_)
      · subst c_18
        refine r_iload_n (i := 3) hk (dk_at D_Acc_half 16 rfl) rfl rfl ?_
        first
          | refine r_iaload (ix := 10 + n) hk (dk_at D_Acc_half 17 rfl) ?_ (hw := (up_n h5j).trans h5)
          | refine r_iaload (ix := n) hk (dk_at D_Acc_half 17 rfl) ?_ (hw := (up_n h5j).trans h5)
        refine r_iastoreU (ix := n) hk (dk_at D_Acc_half 18 rfl) ?_
        refine r_iinc (i := 3) (ls' := [_, _, _, _]) hk (dk_at D_Acc_half 19 rfl) rfl rfl rfl rfl ?_
        refine r_goto (t := 2) hk (dk_at D_Acc_half 20 rfl) (by decide) ?_
        exact ih (by omega) _ _ (by omega) (ext_s hf (dg_eq (by first | (show ((dgt A (10 + n) : Nat) : Int) = ((dgt (A / 10 ^ 10) n : Nat) : Int); rw [dgt_div]) | (show ((dgt A n : Nat) : Int) = ((dgt (A % 10 ^ 10) n : Nat) : Int); rw [dgt_modp A 10 n (by omega)]))))
      · subst c_18
        refine r_bipush hk (dk_at D_Acc_half 12 rfl) (by decide) ?_
        refine r_iload_n (i := 3) hk (dk_at D_Acc_half 13 rfl) rfl rfl ?_
        refine r_iadd hk (dk_at D_Acc_half 14 rfl) ?_
        refine r_goto (t := 29) hk (dk_at D_Acc_half 15 rfl) (by decide) ?_
        first
          | refine r_iaload (ix := 10 + n) hk (dk_at D_Acc_half 17 rfl) ?_ (hw := (up_n h5j).trans h5)
          | refine r_iaload (ix := n) hk (dk_at D_Acc_half 17 rfl) ?_ (hw := (up_n h5j).trans h5)
        refine r_iastoreU (ix := n) hk (dk_at D_Acc_half 18 rfl) ?_
        refine r_iinc (i := 3) (ls' := [_, _, _, _]) hk (dk_at D_Acc_half 19 rfl) rfl rfl rfl rfl ?_
        refine r_goto (t := 2) hk (dk_at D_Acc_half 20 rfl) (by decide) ?_
        exact ih (by omega) _ _ (by omega) (ext_s hf (dg_eq (by first | (show ((dgt A (10 + n) : Nat) : Int) = ((dgt (A / 10 ^ 10) n : Nat) : Int); rw [dgt_div]) | (show ((dgt A n : Nat) : Int) = ((dgt (A % 10 ^ 10) n : Nat) : Int); rw [dgt_modp A 10 n (by omega)]))))
  refine r_iconst hk (dk_at D_Acc_half 0 rfl) ?_
  refine r_istore_n (i := 3) (ls' := [_, _, _, _]) hk (dk_at D_Acc_half 1 rfl) rfl rfl rfl rfl ?_
  refine r_in h2 ?_
  exact loop 0 (Nat.zero_le _) _ _ rfl ext_0
theorem c_Acc_isZero (G : Gt) {ad : Ix → Nat} {w : Wt} {A : Nat} {mn ov : Bool} {a : Nat} (hA : w (4, 0) = some (ac ad mn ov)) (h5 : w (5, 0) = some (aa A)) (hlt : A < 10 ^ 20) (ha : a ≤ 20) : Mt G y_Acc_isZero w_Acc_isZero 0 0 0 [.ref (ad (4, 0)), .int (i32 a)] ad w (ex (some (.int (i32 (b2i (decide (A / 10 ^ a = 0)))))) ad w) noT := by
  refine Mt.to [some (.ref (ad (4, 0))), some (.int (i32 a)), none] (fun K hk hR hin => ?_)
  have loop : ∀ n : Nat, n ≤ 20 → ∀ (k : Int), k = (n : Int) → (A / 10 ^ a = 0 ↔ A / 10 ^ n = 0) → V G K 3 (QE G K (ex (some (.int (i32 (b2i (decide (A / 10 ^ a = 0)))))) ad w) noT 0 0) 0 0 2 [some (.ref (ad (4, 0))), some (.int (i32 a)), some (.int (i32 k))] [] ad w := by
    refine nup 20 (fun n hn ih k hkk he => ?_)
    have hq := dgt_step A n
    have hd := dgt_lt A n
    refine r_iload_n (i := 2) hk (dk_at D_Acc_isZero 2 rfl) rfl rfl ?_
    refine r_aload_n (i := 0) hk (dk_at D_Acc_isZero 3 rfl) rfl rfl ?_
    refine r_get hk fl_Acc_9 (dk_at D_Acc_isZero 4 rfl) ?_
    refine r_alen hk (dk_at D_Acc_isZero 5 rfl) ?_
    refine r_icmp_ge (t := 28) hk (dk_at D_Acc_isZero 6 rfl) (by decide) (by omega) (by omega) (fun c_8 => ?_) (fun c_8 => ?_)
    · obtain rfl : n = 20 := by omega
      have e : decide (A / 10 ^ a = 0) = true := decide_eq_true (he.mpr (Nat.div_eq_of_lt hlt))
      rw [e]
      refine r_iconst hk (dk_at D_Acc_isZero 16 rfl) ?_
      first | exact r_bret (b := true) hk (dk_at D_Acc_isZero 17 rfl) ex.rf | exact r_bret (b := false) hk (dk_at D_Acc_isZero 17 rfl) ex.rf
    · refine r_aload_n (i := 0) hk (dk_at D_Acc_isZero 7 rfl) rfl rfl ?_
      refine r_get hk fl_Acc_9 (dk_at D_Acc_isZero 8 rfl) ?_
      refine r_iload_n (i := 2) hk (dk_at D_Acc_isZero 9 rfl) rfl rfl ?_
      refine r_iaload (ix := n) hk (dk_at D_Acc_isZero 10 rfl) ?_
      refine r_if_eq (t := 22) hk (dk_at D_Acc_isZero 11 rfl) (by decide) (by omega) (fun c_17 => ?_) (fun c_17 => ?_)
      · refine r_iinc (i := 2) (ls' := [_, _, _]) hk (dk_at D_Acc_isZero 14 rfl) rfl rfl rfl rfl ?_
        refine r_goto (t := 2) hk (dk_at D_Acc_isZero 15 rfl) (by decide) ?_
        exact ih (by omega) _ (by omega) (he.trans (by omega))
      · have e : decide (A / 10 ^ a = 0) = false := decide_eq_false (fun z => by have := he.mp z; omega)
        rw [e]
        refine r_iconst hk (dk_at D_Acc_isZero 12 rfl) ?_
        first | exact r_bret (b := true) hk (dk_at D_Acc_isZero 13 rfl) ex.rf | exact r_bret (b := false) hk (dk_at D_Acc_isZero 13 rfl) ex.rf
  refine r_iload_n (i := 1) hk (dk_at D_Acc_isZero 0 rfl) rfl rfl ?_
  refine r_istore_n (i := 2) (ls' := [_, _, _]) hk (dk_at D_Acc_isZero 1 rfl) rfl rfl rfl rfl ?_
  exact loop a ha _ rfl Iff.rfl
theorem c_Acc_isAbove (G : Gt) {ad : Ix → Nat} {w : Wt} {A : Nat} {mn ov : Bool} {i j : Ix} {v : Nat} {x : Value} (hA : w (4, 0) = some (ac ad mn ov)) (h5 : w (5, 0) = some (aa A)) (h1 : w i = some (.inl (3, [.ref (ad j), x]))) (h2 : w j = some (da v)) (hv : v < 10 ^ 10) (hlt : A < 10 ^ 20) : Mt G y_Acc_isAbove w_Acc_isAbove 0 0 0 [.ref (ad (4, 0)), .ref (ad i), .int (i32 10)] ad w (ex (some (.int (i32 (b2i (decide (A / 10 ^ 10 < v)))))) ad w) noT := by
  refine Mt.to [some (.ref (ad (4, 0))), some (.ref (ad i)), some (.int (i32 10)), none, none] (fun K hk hR hin => ?_)
  have loop : ∀ n : Nat, n ≤ 10 → ∀ (k : Int), k = (n : Int) + 9 → v / 10 ^ n = A / 10 ^ 10 / 10 ^ n → V G K 5 (QE G K (ex (some (.int (i32 (b2i (decide (A / 10 ^ 10 < v)))))) ad w) noT 0 0) 0 0 8 [some (.ref (ad (4, 0))), some (.ref (ad i)), some (.int (i32 10)), some (.int (i32 k)), none] [] ad w := by
    refine ndown (fun n ih hn k hkk he => ?_)
    refine r_iload_n (i := 3) hk (dk_at D_Acc_isAbove 6 rfl) rfl rfl ?_
    refine r_iload_n (i := 2) hk (dk_at D_Acc_isAbove 7 rfl) rfl rfl ?_
    refine r_icmp_lt (t := 69) hk (dk_at D_Acc_isAbove 8 rfl) (by decide) (by omega) (by omega) (fun c_10 => ?_) (fun c_10 => ?_)
    · obtain rfl : n = 0 := by omega
      have e : decide (A / 10 ^ 10 < v) = false := decide_eq_false (by rw [Nat.pow_zero, Nat.div_one, Nat.div_one] at he; omega)
      rw [e]
      refine r_iconst hk (dk_at D_Acc_isAbove 41 rfl) ?_
      first | exact r_bret (b := true) hk (dk_at D_Acc_isAbove 42 rfl) ex.rf | exact r_bret (b := false) hk (dk_at D_Acc_isAbove 42 rfl) ex.rf
    · obtain ⟨m, rfl⟩ : ∃ m, n = m + 1 := ⟨n - 1, by omega⟩
      have hq := dgt_step v m
      have hd := dgt_lt v m
      have hq2 := dgt_step (A / 10 ^ 10) m
      have hd2 := dgt_lt (A / 10 ^ 10) m
      have e10 : dgt (A / 10 ^ 10) m = dgt A (10 + m) := dgt_div A 10 m
      rw [e10] at hq2 hd2
      refine r_iload_n (i := 3) hk (dk_at D_Acc_isAbove 9 rfl) rfl rfl ?_
      refine r_iload_n (i := 2) hk (dk_at D_Acc_isAbove 10 rfl) rfl rfl ?_
      refine r_bipush hk (dk_at D_Acc_isAbove 11 rfl) (by decide) ?_
      refine r_iadd hk (dk_at D_Acc_isAbove 12 rfl) ?_
      refine r_icmp_ge (t := 32) hk (dk_at D_Acc_isAbove 13 rfl) (by decide) (by omega) (by omega) (fun c_18 => ?_) (fun c_18 => ?_)
      · exact absurd c_18 (by omega)
      · refine r_aload_n (i := 1) hk (dk_at D_Acc_isAbove 14 rfl) rfl rfl ?_
        refine r_getN hk fl_Acc_32 (dk_at D_Acc_isAbove 15 rfl) ?_
        refine r_iload_n (i := 3) hk (dk_at D_Acc_isAbove 16 rfl) rfl rfl ?_
        refine r_iload_n (i := 2) hk (dk_at D_Acc_isAbove 17 rfl) rfl rfl ?_
        refine r_isub hk (dk_at D_Acc_isAbove 18 rfl) ?_
        refine r_iaload (ix := m) hk (dk_at D_Acc_isAbove 19 rfl) ?_
        refine r_goto (t := 33) hk (dk_at D_Acc_isAbove 20 rfl) (by decide) ?_
        refine r_istore (i := 4) (ls' := [_, _, _, _, _]) hk (dk_at D_Acc_isAbove 22 rfl) rfl rfl rfl ?_
        refine r_iload (i := 4) hk (dk_at D_Acc_isAbove 23 rfl) rfl ?_
        refine r_aload_n (i := 0) hk (dk_at D_Acc_isAbove 24 rfl) rfl rfl ?_
        refine r_get hk fl_Acc_9 (dk_at D_Acc_isAbove 25 rfl) ?_
        refine r_iload_n (i := 3) hk (dk_at D_Acc_isAbove 26 rfl) rfl rfl ?_
        refine r_iaload (ix := 10 + m) hk (dk_at D_Acc_isAbove 27 rfl) ?_
        refine r_icmp_eq (t := 63) hk (dk_at D_Acc_isAbove 28 rfl) (by decide) (by omega) (by omega) (fun c_43 => ?_) (fun c_43 => ?_)
        · refine r_iinc (i := 3) (ls' := [_, _, _, _, _]) hk (dk_at D_Acc_isAbove 39 rfl) rfl rfl rfl rfl ?_
          refine r_goto (t := 8) hk (dk_at D_Acc_isAbove 40 rfl) (by decide) ?_
          refine r_drop 4 (ls' := [_, _, _, _, _]) rfl ?_
          exact ih m rfl (by omega) _ (by omega) (by omega)
        · refine r_iload (i := 4) hk (dk_at D_Acc_isAbove 29 rfl) rfl ?_
          refine r_aload_n (i := 0) hk (dk_at D_Acc_isAbove 30 rfl) rfl rfl ?_
          refine r_get hk fl_Acc_9 (dk_at D_Acc_isAbove 31 rfl) ?_
          refine r_iload_n (i := 3) hk (dk_at D_Acc_isAbove 32 rfl) rfl rfl ?_
          refine r_iaload (ix := 10 + m) hk (dk_at D_Acc_isAbove 33 rfl) ?_
          refine r_icmp_le (t := 61) hk (dk_at D_Acc_isAbove 34 rfl) (by decide) (by omega) (by omega) (fun c_54 => ?_) (fun c_54 => ?_)
          · have e : decide (A / 10 ^ 10 < v) = false := decide_eq_false (fun z => by have := Nat.div_le_div_right (c := 10 ^ m) (Nat.le_of_lt z); omega)
            rw [e]
            refine r_iconst hk (dk_at D_Acc_isAbove 37 rfl) ?_
            first | exact r_bret (b := true) hk (dk_at D_Acc_isAbove 38 rfl) ex.rf | exact r_bret (b := false) hk (dk_at D_Acc_isAbove 38 rfl) ex.rf
          · have e : decide (A / 10 ^ 10 < v) = true := decide_eq_true (by have := Nat.lt_of_div_lt_div (a := A / 10 ^ 10) (b := v) (c := 10 ^ m) (by omega); exact this)
            rw [e]
            refine r_iconst hk (dk_at D_Acc_isAbove 35 rfl) ?_
            refine r_goto (t := 62) hk (dk_at D_Acc_isAbove 36 rfl) (by decide) ?_
            first | exact r_bret (b := true) hk (dk_at D_Acc_isAbove 38 rfl) ex.rf | exact r_bret (b := false) hk (dk_at D_Acc_isAbove 38 rfl) ex.rf
  refine r_aload_n (i := 0) hk (dk_at D_Acc_isAbove 0 rfl) rfl rfl ?_
  refine r_get hk fl_Acc_9 (dk_at D_Acc_isAbove 1 rfl) ?_
  refine r_alen hk (dk_at D_Acc_isAbove 2 rfl) ?_
  refine r_iconst hk (dk_at D_Acc_isAbove 3 rfl) ?_
  refine r_isub hk (dk_at D_Acc_isAbove 4 rfl) ?_
  refine r_istore_n (i := 3) (ls' := [_, _, _, _, _]) hk (dk_at D_Acc_isAbove 5 rfl) rfl rfl rfl rfl ?_
  exact loop 10 (Nat.le_refl _) _ rfl (by rw [Nat.div_eq_of_lt hv, Nat.div_div_eq_div_mul, ← Nat.pow_add, Nat.div_eq_of_lt hlt])
theorem c_Acc_plus (G : Gt) {ad : Ix → Nat} {w : Wt} {A : Nat} {mn ov : Bool} {i j : Ix} {v a : Nat} {x : Value} (hA : w (4, 0) = some (ac ad mn ov)) (h5 : w (5, 0) = some (aa A)) (h1 : w i = some (.inl (3, [.ref (ad j), x]))) (h2 : w j = some (da v)) (hv : v < 10 ^ 10) (hlt : A < 10 ^ 20) (hat : a = 0 ∨ a = 10) (hj5 : j ≠ (5, 0)) : Mt G y_Acc_plus w_Acc_plus 0 0 0 [.ref (ad (4, 0)), .ref (ad i), .int (i32 a)] ad w (ex (some (.int (i32 (((A + v * 10 ^ a) / 10 ^ 20 : Nat) : Int)))) ad (up w (5, 0) (some (aa ((A + v * 10 ^ a) % 10 ^ 20))))) noT := by
  have hi5 : i ≠ (5, 0) := ij_ne h1 h5
  have hpa : 0 < 10 ^ a := Nat.pow_pos (by decide)
  refine Mt.to [some (.ref (ad (4, 0))), some (.ref (ad i)), some (.int (i32 a)), none, none, none] (fun K hk hR hin => ?_)
  have loop : ∀ n : Nat, n ≤ 20 → ∀ (u k : Int) (c : Nat) (f : Nat → Value), a ≤ n → u = (c : Int) → c ≤ 1 → k = (n : Int) → (A + v * 10 ^ a) / 10 ^ n = A / 10 ^ n + v * 10 ^ a / 10 ^ n + c → (∀ m, m < n → f m = dg (A + v * 10 ^ a) m) → (∀ m, n ≤ m → f m = dg A m) → V G K 6 (QE G K (ex (some (.int (i32 (((A + v * 10 ^ a) / 10 ^ 20 : Nat) : Int)))) ad (up w (5, 0) (some (aa ((A + v * 10 ^ a) % 10 ^ 20))))) noT 0 0) 0 0 5 [some (.ref (ad (4, 0))), some (.ref (ad i)), some (.int (i32 a)), some (.int (i32 u)), some (.int (i32 k)), none] [] ad (up w (5, 0) (some (.inr (0, 20, f)))) := by
    refine nup 20 (fun n hn ih u k c f han hu hc hkk he hf hg => ?_)
    have hq := dgt_step A n
    have hd := dgt_lt A n
    have hq2 := dgt_step (v * 10 ^ a) n
    have hd2 := dgt_lt (v * 10 ^ a) n
    have hq3 := dgt_step (A + v * 10 ^ a) n
    have hd3 := dgt_lt (A + v * 10 ^ a) n
    have em : dgt (v * 10 ^ a) n = dgt v (n - a) := dgt_mul v a n han
    rw [em] at hq2 hd2
    refine r_iload (i := 4) hk (dk_at D_Acc_plus 4 rfl) rfl ?_
    refine r_aload_n (i := 0) hk (dk_at D_Acc_plus 5 rfl) rfl rfl ?_
    refine r_get hk fl_Acc_9 (dk_at D_Acc_plus 6 rfl) ?_ (hw := (up_n h45).trans hA)
    refine r_alen hk (dk_at D_Acc_plus 7 rfl) ?_
    refine r_icmp_ge (t := 73) hk (dk_at D_Acc_plus 8 rfl) (by decide) (by omega) (by omega) (fun c_12 => ?_) (fun c_12 => ?_)
    · obtain rfl : n = 20 := by omega
      have e1 : A / 10 ^ 20 = 0 := Nat.div_eq_of_lt hlt
      have e2 : v * 10 ^ a / 10 ^ 20 = 0 := Nat.div_eq_of_lt (by rcases hat with rfl | rfl <;> omega)
      have e3 : u = (((A + v * 10 ^ a) / 10 ^ 20 : Nat) : Int) := by omega
      subst e3
      refine r_arr (g := dg ((A + v * 10 ^ a) % 10 ^ 20)) (fun m hm => by rw [hf m hm]; exact dg_eq (by rw [dgt_modp _ 20 m hm])) ?_
      refine r_iload_n (i := 3) hk (dk_at D_Acc_plus 43 rfl) rfl rfl ?_
      exact r_iret hk (dk_at D_Acc_plus 44 rfl) ex.rf
    · refine r_aload_n (i := 0) hk (dk_at D_Acc_plus 9 rfl) rfl rfl ?_
      refine r_get hk fl_Acc_9 (dk_at D_Acc_plus 10 rfl) ?_ (hw := (up_n h45).trans hA)
      refine r_iload (i := 4) hk (dk_at D_Acc_plus 11 rfl) rfl ?_
      refine r_iaload (ix := n) hk (dk_at D_Acc_plus 12 rfl) ?_ (hw := up_s)
      refine r_top (hg n (Nat.le_refl _)) ?_
      refine r_iload_n (i := 3) hk (dk_at D_Acc_plus 13 rfl) rfl rfl ?_
      refine r_iadd hk (dk_at D_Acc_plus 14 rfl) ?_
      refine r_iload (i := 4) hk (dk_at D_Acc_plus 15 rfl) rfl ?_
      refine r_iload_n (i := 2) hk (dk_at D_Acc_plus 16 rfl) rfl rfl ?_
      refine r_bipush hk (dk_at D_Acc_plus 17 rfl) (by decide) ?_
      refine r_iadd hk (dk_at D_Acc_plus 18 rfl) ?_
      refine r_icmp_ge (t := 45) hk (dk_at D_Acc_plus 19 rfl) (by decide) (by omega) (by omega) (fun c_30 => ?_) (fun c_30 => ?_)
      · have ez : dgt v (n - a) = 0 := dgt_big hv (by omega)
        refine r_iconst hk (dk_at D_Acc_plus 27 rfl) ?_
        refine r_iadd hk (dk_at D_Acc_plus 28 rfl) ?_
        refine r_topi (x' := ((dgt A n + dgt v (n - a) + c : Nat) : Int)) (by omega) ?_
        refine r_istore (i := 5) (ls' := [_, _, _, _, _, _]) hk (dk_at D_Acc_plus 29 rfl) rfl rfl rfl ?_
        refine r_aload_n (i := 0) hk (dk_at D_Acc_plus 30 rfl) rfl rfl ?_
        refine r_get hk fl_Acc_9 (dk_at D_Acc_plus 31 rfl) ?_ (hw := (up_n h45).trans hA)
        refine r_iload (i := 4) hk (dk_at D_Acc_plus 32 rfl) rfl ?_
        refine r_iload (i := 5) hk (dk_at D_Acc_plus 33 rfl) rfl ?_
        refine r_bipush hk (dk_at D_Acc_plus 34 rfl) (by decide) ?_
        refine r_irem hk (dk_at D_Acc_plus 35 rfl) (by omega) (by omega) ?_
        refine r_iastoreU (ix := n) hk (dk_at D_Acc_plus 36 rfl) ?_
        refine r_iload (i := 5) hk (dk_at D_Acc_plus 37 rfl) rfl ?_
        refine r_bipush hk (dk_at D_Acc_plus 38 rfl) (by decide) ?_
        refine r_idiv hk (dk_at D_Acc_plus 39 rfl) (by omega) (by omega) ?_
        refine r_istore_n (i := 3) (ls' := [_, _, _, _, _, _]) hk (dk_at D_Acc_plus 40 rfl) rfl rfl rfl rfl ?_
        refine r_iinc (i := 4) (ls' := [_, _, _, _, _, _]) hk (dk_at D_Acc_plus 41 rfl) rfl rfl rfl rfl ?_
        refine r_goto (t := 5) hk (dk_at D_Acc_plus 42 rfl) (by decide) ?_
        refine r_drop 5 (ls' := [_, _, _, _, _, _]) rfl ?_
        exact ih (by omega) _ _ ((dgt A n + dgt v (n - a) + c) / 10) _ (by omega) (by omega) (by omega) (by omega) (by omega) (ext_s hf (dg_eq (by omega))) (fun m hm => by rw [updV_n (by omega)]; exact hg m (by omega))
      · refine r_aload_n (i := 1) hk (dk_at D_Acc_plus 20 rfl) rfl rfl ?_
        refine r_getN hk fl_Acc_32 (dk_at D_Acc_plus 21 rfl) ?_ (hw := (up_n hi5).trans h1)
        refine r_iload (i := 4) hk (dk_at D_Acc_plus 22 rfl) rfl ?_
        refine r_iload_n (i := 2) hk (dk_at D_Acc_plus 23 rfl) rfl rfl ?_
        refine r_isub hk (dk_at D_Acc_plus 24 rfl) ?_
        refine r_iaload (ix := (n - a)) hk (dk_at D_Acc_plus 25 rfl) ?_ (hw := (up_n hj5).trans h2)
        refine r_goto (t := 46) hk (dk_at D_Acc_plus 26 rfl) (by decide) ?_
        refine r_iadd hk (dk_at D_Acc_plus 28 rfl) ?_
        refine r_topi (x' := ((dgt A n + dgt v (n - a) + c : Nat) : Int)) (by omega) ?_
        refine r_istore (i := 5) (ls' := [_, _, _, _, _, _]) hk (dk_at D_Acc_plus 29 rfl) rfl rfl rfl ?_
        refine r_aload_n (i := 0) hk (dk_at D_Acc_plus 30 rfl) rfl rfl ?_
        refine r_get hk fl_Acc_9 (dk_at D_Acc_plus 31 rfl) ?_ (hw := (up_n h45).trans hA)
        refine r_iload (i := 4) hk (dk_at D_Acc_plus 32 rfl) rfl ?_
        refine r_iload (i := 5) hk (dk_at D_Acc_plus 33 rfl) rfl ?_
        refine r_bipush hk (dk_at D_Acc_plus 34 rfl) (by decide) ?_
        refine r_irem hk (dk_at D_Acc_plus 35 rfl) (by omega) (by omega) ?_
        refine r_iastoreU (ix := n) hk (dk_at D_Acc_plus 36 rfl) ?_
        refine r_iload (i := 5) hk (dk_at D_Acc_plus 37 rfl) rfl ?_
        refine r_bipush hk (dk_at D_Acc_plus 38 rfl) (by decide) ?_
        refine r_idiv hk (dk_at D_Acc_plus 39 rfl) (by omega) (by omega) ?_
        refine r_istore_n (i := 3) (ls' := [_, _, _, _, _, _]) hk (dk_at D_Acc_plus 40 rfl) rfl rfl rfl rfl ?_
        refine r_iinc (i := 4) (ls' := [_, _, _, _, _, _]) hk (dk_at D_Acc_plus 41 rfl) rfl rfl rfl rfl ?_
        refine r_goto (t := 5) hk (dk_at D_Acc_plus 42 rfl) (by decide) ?_
        refine r_drop 5 (ls' := [_, _, _, _, _, _]) rfl ?_
        exact ih (by omega) _ _ ((dgt A n + dgt v (n - a) + c) / 10) _ (by omega) (by omega) (by omega) (by omega) (by omega) (ext_s hf (dg_eq (by omega))) (fun m hm => by rw [updV_n (by omega)]; exact hg m (by omega))
  refine r_iconst hk (dk_at D_Acc_plus 0 rfl) ?_
  refine r_istore_n (i := 3) (ls' := [_, _, _, _, _, _]) hk (dk_at D_Acc_plus 1 rfl) rfl rfl rfl rfl ?_
  refine r_iload_n (i := 2) hk (dk_at D_Acc_plus 2 rfl) rfl rfl ?_
  refine r_istore (i := 4) (ls' := [_, _, _, _, _, _]) hk (dk_at D_Acc_plus 3 rfl) rfl rfl rfl ?_
  refine r_in h5 ?_
  exact loop a (by omega) _ _ 0 _ (Nat.le_refl _) rfl (by omega) rfl (by rw [Nat.add_mul_div_right _ _ hpa, Nat.mul_div_cancel _ hpa, Nat.add_zero]) (fun m hm => by
    have hz : a = 10 := by omega
    subst hz
    exact dg_eq (by unfold dgt; rw [low_add A v m (by omega)])) (fun m _ => rfl)
