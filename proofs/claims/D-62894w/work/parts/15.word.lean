/-! digits -/
def dgt (v k : Nat) : Nat := v / 10 ^ k % 10
theorem dgt_lt (v k : Nat) : dgt v k < 10 := Nat.mod_lt _ (by decide)
/-- the contents of a word's array -/
def dg (v : Nat) : Nat → Value := fun k => .int (i32 (dgt v k))
theorem dgt_step (v k : Nat) : v / 10 ^ k = 10 * (v / 10 ^ (k + 1)) + dgt v k := by
  unfold dgt
  rw [Nat.pow_succ, ← Nat.div_div_eq_div_mul]
  omega
theorem dgt_0 (v : Nat) : v / 10 ^ 0 = v := by simp
theorem ndown {P : Nat → Prop} (h : ∀ n, (∀ m, n = m + 1 → P m) → P n) : ∀ n, P n := by
  intro n
  induction n with
  | zero => exact h 0 (fun m e => by omega)
  | succ n ih => exact h (n + 1) (fun m e => by cases e; exact ih)
/-- a loop that counts up to N -/
theorem nup {P : Nat → Prop} (N : Nat) (h : ∀ n, n ≤ N → (n < N → P (n + 1)) → P n) : ∀ n, n ≤ N → P n := by
  have key : ∀ m n, n + m = N → P n := by
    intro m
    induction m with
    | zero => intro n e; exact h n (by omega) (fun c => by omega)
    | succ m ih => intro n e; exact h n (by omega) (fun c => ih (n + 1) (by omega))
  intro n hn
  exact key (N - n) n (by omega)
theorem dgt_mod (v k b : Nat) : v / 10 ^ k % 10 ^ (b + 1) = 10 * (v / 10 ^ (k + 1) % 10 ^ b) + dgt v k := by
  have h1 : v / 10 ^ (k + 1) = v / 10 ^ k / 10 := by rw [Nat.pow_succ, Nat.div_div_eq_div_mul]
  rw [h1]
  unfold dgt
  generalize v / 10 ^ k = y
  have e1 : y % (10 * 10 ^ b) / 10 = y / 10 % 10 ^ b := Nat.mod_mul_right_div_self ..
  have e2 : y % (10 * 10 ^ b) % 10 = y % 10 := Nat.mod_mul_right_mod ..
  have e3 := Nat.div_add_mod (y % (10 * 10 ^ b)) 10
  rw [Nat.pow_succ, Nat.mul_comm]
  omega
/-- digits 4..7 told by a -/
def sad (v a : Nat) : Nat := v % 10000 + a * 10000 + v / 100000000 * 100000000
theorem sad_lo (v a k : Nat) (h : k < 4) : dgt (sad v a) k = dgt v k := by
  unfold dgt sad
  rcases (by omega : k = 0 ∨ k = 1 ∨ k = 2 ∨ k = 3) with rfl | rfl | rfl | rfl <;> simp only [Nat.reducePow] <;> omega
theorem sad_dgt (v a k : Nat) (h : k < 4) (ha : a < 10000) : dgt (sad v a) (k + 4) = dgt a k := by
  unfold dgt sad
  rcases (by omega : k = 0 ∨ k = 1 ∨ k = 2 ∨ k = 3) with rfl | rfl | rfl | rfl <;> simp only [Nat.reduceAdd, Nat.reducePow] <;> omega
theorem sad_hi (v a k : Nat) (h : 8 ≤ k) (ha : a < 10000) : dgt (sad v a) k = dgt v k := by
  obtain ⟨m, rfl⟩ : ∃ m, k = 8 + m := ⟨k - 8, by omega⟩
  have e : sad v a / 100000000 = v / 100000000 := by unfold sad; omega
  unfold dgt
  rw [Nat.pow_add, ← Nat.div_div_eq_div_mul, ← Nat.div_div_eq_div_mul, show (10 : Nat) ^ 8 = 100000000 by decide, e]
theorem sad_lt {v a : Nat} (hv : v < 10000000000) (ha : a < 10000) : sad v a < 10000000000 := by unfold sad; omega
theorem dg_eq {v n : Nat} {x : Int} (h : x = ((dgt v n : Nat) : Int)) : Value.int (i32 x) = dg v n := by subst h; rfl
/-! DrumMachine.Word -/
abbrev wo (ad : Ix → Nat) (j : Ix) (sg : Bool) : Ce := .inl (3, [.ref (ad j), .int (i32 (b2i sg))])
abbrev da (v : Nat) : Ce := .inr (0, 10, dg v)
theorem c_Word_value (G : Gt) {ad : Ix → Nat} {w : Wt} {i j : Ix} {v : Nat} {x : Value} (h1 : w i = some (.inl (3, [.ref (ad j), x]))) (h2 : w j = some (da v)) (hv : v < 10000000000) : Mt G y_Word_value w_Word_value 0 0 0 [.ref (ad i)] ad w (ex (some (.long (i64 v))) ad w) noT := by
  refine Mt.to [some (.ref (ad i)), none, none, none] (fun K hk hR hin => ?_)
  have loop : ∀ n : Nat, n ≤ 10 → ∀ u k : Int, u = ((v / 10 ^ n : Nat) : Int) → k = (n : Int) - 1 → V G K 4 (QE G K (ex (some (.long (i64 v))) ad w) noT 0 0) 0 0 5 [some (.ref (ad i)), some (.long (i64 u)), none, some (.int (i32 k))] [] ad w := by
    refine ndown (fun n ih hn u k hu hkk => ?_)
    refine r_iload_n (i := 3) hk (dk_at D_Word_value 4 rfl) rfl rfl ?_
    refine r_if_lt (t := 29) hk (dk_at D_Word_value 5 rfl) (by decide) (by omega) (fun c_6 => ?_) (fun c_6 => ?_)
    · obtain rfl : n = 0 := by omega
      rw [dgt_0] at hu
      subst hu
      refine r_lload_n (i := 1) hk (dk_at D_Word_value 18 rfl) rfl rfl ?_
      exact r_lret hk (dk_at D_Word_value 19 rfl) ex.rf
    · obtain ⟨m, rfl⟩ : ∃ m, n = m + 1 := ⟨n - 1, by omega⟩
      have hd := dgt_lt v m
      have hq := dgt_step v m
      refine r_ldc2 hk kl_Word_15 (dk_at D_Word_value 6 rfl) ?_
      refine r_lload_n (i := 1) hk (dk_at D_Word_value 7 rfl) rfl rfl ?_
      refine r_lmul hk (dk_at D_Word_value 8 rfl) ?_
      refine r_aload_n (i := 0) hk (dk_at D_Word_value 9 rfl) rfl rfl ?_
      refine r_get hk fl_Word_9 (dk_at D_Word_value 10 rfl) ?_
      refine r_iload_n (i := 3) hk (dk_at D_Word_value 11 rfl) rfl rfl ?_
      refine r_iaload (ix := m) hk (dk_at D_Word_value 12 rfl) ?_
      refine r_i2l hk (dk_at D_Word_value 13 rfl) (by omega) ?_
      refine r_ladd hk (dk_at D_Word_value 14 rfl) ?_
      refine r_lstore_n (i := 1) (ls' := [_, _, _, _]) hk (dk_at D_Word_value 15 rfl) rfl rfl rfl rfl ?_
      refine r_iinc (i := 3) (ls' := [_, _, _, _]) hk (dk_at D_Word_value 16 rfl) rfl rfl rfl rfl ?_
      refine r_goto (t := 5) hk (dk_at D_Word_value 17 rfl) (by decide) ?_
      exact ih m rfl (by omega) _ _ (by omega) (by omega)
  refine r_lconst (z := 0) hk (dk_at D_Word_value 0 rfl) rfl ?_
  refine r_lstore_n (i := 1) (ls' := [_, _, _, _]) hk (dk_at D_Word_value 1 rfl) rfl rfl rfl rfl ?_
  refine r_bipush hk (dk_at D_Word_value 2 rfl) (by decide) ?_
  refine r_istore_n (i := 3) (ls' := [_, _, _, _]) hk (dk_at D_Word_value 3 rfl) rfl rfl rfl rfl ?_
  exact loop 10 (Nat.le_refl _) _ _ (by rw [Nat.div_eq_of_lt hv]; rfl) rfl
theorem c_Word_set (G : Gt) {ad : Ix → Nat} {w : Wt} {i j : Ix} {v : Nat} {sg : Bool} {x : Value} {g : Nat → Value} (h1 : w i = some (.inl (3, [.ref (ad j), x]))) (h2 : w j = some (.inr (0, 10, g))) (hv : v < 10000000000) : Mt G y_Word_set w_Word_set 0 0 0 [.ref (ad i), .long (i64 v), .int (i32 (b2i sg))] ad w (ex none ad (up (up w j (some (da v))) i (some (wo ad j sg)))) noT := by
  have hij := ij_ne h1 h2
  refine Mt.to [some (.ref (ad i)), some (.long (i64 v)), none, some (.int (i32 (b2i sg))), none, none, none] (fun K hk hR hin => ?_)
  have loop : ∀ n : Nat, n ≤ 10 → ∀ (u k : Int) (f : Nat → Value), u = ((v / 10 ^ n : Nat) : Int) → k = (n : Int) → (∀ m, m < n → f m = dg v m) → V G K 7 (QE G K (ex none ad (up (up w j (some (da v))) i (some (wo ad j sg)))) noT 0 0) 0 0 6 [some (.ref (ad i)), some (.long (i64 v)), none, some (.int (i32 (b2i sg))), some (.long (i64 u)), none, some (.int (i32 k))] [] ad (up w j (some (.inr (0, 10, f)))) := by
    refine nup 10 (fun n hn ih u k f hu hkk hf => ?_)
    have hle : v / 10 ^ n ≤ v := Nat.div_le_self _ _
    refine r_iload (i := 6) hk (dk_at D_Word_set 4 rfl) rfl ?_
    refine r_bipush hk (dk_at D_Word_set 5 rfl) (by decide) ?_
    refine r_icmp_ge (t := 41) hk (dk_at D_Word_set 6 rfl) (by decide) (by omega) (by omega) (fun c_10 => ?_) (fun c_10 => ?_)
    · obtain rfl : n = 10 := by omega
      refine r_arr hf ?_
      refine r_aload_n (i := 0) hk (dk_at D_Word_set 21 rfl) rfl rfl ?_
      refine r_iload_n (i := 3) hk (dk_at D_Word_set 22 rfl) rfl rfl ?_
      refine r_put (fs' := [_, _]) hk fl_Word_17 ft_Word_1 (dk_at D_Word_set 23 rfl) ?_ (hn := b2i_n _) (hfit := b2i_fit _) (hw := (up_n hij).trans h1)
      exact r_vret hk (dk_at D_Word_set 24 rfl) ex.rf
    · have hd := dgt_lt v n
      have hq := dgt_step v n
      refine r_aload_n (i := 0) hk (dk_at D_Word_set 7 rfl) rfl rfl ?_
      refine r_get hk fl_Word_9 (dk_at D_Word_set 8 rfl) ?_ (hw := (up_n hij).trans h1)
      refine r_iload (i := 6) hk (dk_at D_Word_set 9 rfl) rfl ?_
      refine r_lload (i := 4) hk (dk_at D_Word_set 10 rfl) rfl ?_
      refine r_ldc2 hk kl_Word_15 (dk_at D_Word_set 11 rfl) ?_
      refine r_lrem hk (dk_at D_Word_set 12 rfl) (by omega) (by omega) ?_
      refine r_l2i hk (dk_at D_Word_set 13 rfl) ?_
      refine r_iastoreU (ix := n) hk (dk_at D_Word_set 14 rfl) ?_
      refine r_lload (i := 4) hk (dk_at D_Word_set 15 rfl) rfl ?_
      refine r_ldc2 hk kl_Word_15 (dk_at D_Word_set 16 rfl) ?_
      refine r_ldiv hk (dk_at D_Word_set 17 rfl) (by omega) (by omega) ?_
      refine r_lstore (i := 4) (ls' := [_, _, _, _, _, _, _]) hk (dk_at D_Word_set 18 rfl) rfl rfl rfl ?_
      refine r_iinc (i := 6) (ls' := [_, _, _, _, _, _, _]) hk (dk_at D_Word_set 19 rfl) rfl rfl rfl rfl ?_
      refine r_goto (t := 6) hk (dk_at D_Word_set 20 rfl) (by decide) ?_
      exact ih (by omega) _ _ _ (by omega) (by omega) (ext_s hf (dg_eq (by show u % 10 = ((v / 10 ^ n % 10 : Nat) : Int); omega)))
  refine r_lload_n (i := 1) hk (dk_at D_Word_set 0 rfl) rfl rfl ?_
  refine r_lstore (i := 4) (ls' := [_, _, _, _, _, _, _]) hk (dk_at D_Word_set 1 rfl) rfl rfl rfl ?_
  refine r_iconst hk (dk_at D_Word_set 2 rfl) ?_
  refine r_istore (i := 6) (ls' := [_, _, _, _, _, _, _]) hk (dk_at D_Word_set 3 rfl) rfl rfl rfl ?_
  refine r_in h2 ?_
  exact loop 0 (Nat.zero_le _) _ _ _ (by rw [dgt_0]) rfl ext_0
theorem c_Word_copy (G : Gt) {ad : Ix → Nat} {w : Wt} {i j i' j' : Ix} {v : Nat} {sg : Bool} {x : Value} {g : Nat → Value} (h1 : w i = some (.inl (3, [.ref (ad j), x]))) (h2 : w j = some (.inr (0, 10, g))) (h3 : w i' = some (wo ad j' sg)) (h4 : w j' = some (da v)) (hjj : j' ≠ j) : Mt G y_Word_copy w_Word_copy 0 0 0 [.ref (ad i), .ref (ad i')] ad w (ex none ad (up (up w j (some (da v))) i (some (wo ad j sg)))) noT := by
  have hij := ij_ne h1 h2
  have hij' := ij_ne h3 h2
  refine Mt.to [some (.ref (ad i)), some (.ref (ad i')), none] (fun K hk hR hin => ?_)
  have loop : ∀ n : Nat, n ≤ 10 → ∀ (k : Int) (f : Nat → Value), k = (n : Int) → (∀ m, m < n → f m = dg v m) → V G K 3 (QE G K (ex none ad (up (up w j (some (da v))) i (some (wo ad j sg)))) noT 0 0) 0 0 2 [some (.ref (ad i)), some (.ref (ad i')), some (.int (i32 k))] [] ad (up w j (some (.inr (0, 10, f)))) := by
    refine nup 10 (fun n hn ih k f hkk hf => ?_)
    refine r_iload_n (i := 2) hk (dk_at D_Word_copy 2 rfl) rfl rfl ?_
    refine r_bipush hk (dk_at D_Word_copy 3 rfl) (by decide) ?_
    refine r_icmp_ge (t := 26) hk (dk_at D_Word_copy 4 rfl) (by decide) (by omega) (by omega) (fun c_5 => ?_) (fun c_5 => ?_)
    · obtain rfl : n = 10 := by omega
      refine r_arr hf ?_
      refine r_aload_n (i := 0) hk (dk_at D_Word_copy 15 rfl) rfl rfl ?_
      refine r_aload_n (i := 1) hk (dk_at D_Word_copy 16 rfl) rfl rfl ?_
      refine r_get hk fl_Word_17 (dk_at D_Word_copy 17 rfl) ?_ (hw := (up_n hij').trans h3)
      refine r_put (fs' := [_, _]) hk fl_Word_17 ft_Word_1 (dk_at D_Word_copy 18 rfl) ?_ (hn := b2i_n _) (hfit := b2i_fit _) (hw := (up_n hij).trans h1)
      exact r_vret hk (dk_at D_Word_copy 19 rfl) ex.rf
    · refine r_aload_n (i := 0) hk (dk_at D_Word_copy 5 rfl) rfl rfl ?_
      refine r_get hk fl_Word_9 (dk_at D_Word_copy 6 rfl) ?_ (hw := (up_n hij).trans h1)
      refine r_iload_n (i := 2) hk (dk_at D_Word_copy 7 rfl) rfl rfl ?_
      refine r_aload_n (i := 1) hk (dk_at D_Word_copy 8 rfl) rfl rfl ?_
      refine r_get hk fl_Word_9 (dk_at D_Word_copy 9 rfl) ?_ (hw := (up_n hij').trans h3)
      refine r_iload_n (i := 2) hk (dk_at D_Word_copy 10 rfl) rfl rfl ?_
      refine r_iaload (ix := n) hk (dk_at D_Word_copy 11 rfl) ?_ (hw := (up_n hjj).trans h4)
      refine r_iastoreU (ix := n) hk (dk_at D_Word_copy 12 rfl) ?_
      refine r_iinc (i := 2) (ls' := [_, _, _]) hk (dk_at D_Word_copy 13 rfl) rfl rfl rfl rfl ?_
      refine r_goto (t := 2) hk (dk_at D_Word_copy 14 rfl) (by decide) ?_
      exact ih (by omega) _ _ (by omega) (ext_s hf rfl)
  refine r_iconst hk (dk_at D_Word_copy 0 rfl) ?_
  refine r_istore_n (i := 2) (ls' := [_, _, _]) hk (dk_at D_Word_copy 1 rfl) rfl rfl rfl rfl ?_
  refine r_in h2 ?_
  exact loop 0 (Nat.zero_le _) _ _ rfl ext_0
theorem c_Word_signed (G : Gt) {ad : Ix → Nat} {w : Wt} {i j : Ix} {v : Nat} {sg : Bool} (h1 : w i = some (wo ad j sg)) (h2 : w j = some (da v)) (hv : v < 10000000000) : Mt G y_Word_signed w_Word_signed 1 0 0 [.ref (ad i)] ad w (ex (some (.long (i64 (cond sg (-(v : Int)) v)))) ad w) noT := by
  refine Mt.to [some (.ref (ad i))] (fun K hk hR hin => ?_)
  refine r_aload_n (i := 0) hk (dk_at D_Word_signed 0 rfl) rfl rfl ?_
  refine r_get hk fl_Word_17 (dk_at D_Word_signed 1 rfl) ?_
  refine r_if_eqB (t := 15) hk (dk_at D_Word_signed 2 rfl) (by decide) (fun c_4 => ?_) (fun c_4 => ?_)
  · subst c_4
    refine r_aload_n (i := 0) hk (dk_at D_Word_signed 7 rfl) rfl rfl ?_
    refine r_callV hk hR m_Word_value s_Word_value ml_Word_21 (dk_at D_Word_signed 8 rfl) (c_Word_value G h1 h2 hv) ?_
    exact r_lret hk (dk_at D_Word_signed 9 rfl) ex.rf
  · subst c_4
    refine r_aload_n (i := 0) hk (dk_at D_Word_signed 3 rfl) rfl rfl ?_
    refine r_callV hk hR m_Word_value s_Word_value ml_Word_21 (dk_at D_Word_signed 4 rfl) (c_Word_value G h1 h2 hv) ?_
    refine r_lneg hk (dk_at D_Word_signed 5 rfl) ?_
    refine r_goto (t := 19) hk (dk_at D_Word_signed 6 rfl) (by decide) ?_
    exact r_lret hk (dk_at D_Word_signed 9 rfl) ex.rf
theorem c_Word_isBelow (G : Gt) {ad : Ix → Nat} {w : Wt} {i j i' j' : Ix} {v v' : Nat} {sg sg' : Bool} (h1 : w i = some (wo ad j sg)) (h2 : w j = some (da v)) (hv : v < 10000000000) (h3 : w i' = some (wo ad j' sg')) (h4 : w j' = some (da v')) (hv' : v' < 10000000000) : Mt G y_Word_isBelow w_Word_isBelow 1 0 0 [.ref (ad i), .ref (ad i')] ad w (ex (some (.int (i32 (b2i (decide (v < v')))))) ad w) noT := by
  refine Mt.to [some (.ref (ad i)), some (.ref (ad i'))] (fun K hk hR hin => ?_)
  refine r_aload_n (i := 0) hk (dk_at D_Word_isBelow 0 rfl) rfl rfl ?_
  refine r_callV hk hR m_Word_value s_Word_value ml_Word_21 (dk_at D_Word_isBelow 1 rfl) (c_Word_value G h1 h2 hv) ?_
  refine r_aload_n (i := 1) hk (dk_at D_Word_isBelow 2 rfl) rfl rfl ?_
  refine r_callV hk hR m_Word_value s_Word_value ml_Word_21 (dk_at D_Word_isBelow 3 rfl) (c_Word_value G h3 h4 hv') ?_
  refine r_lc_ge (t := 16) hk (dk_at D_Word_isBelow 4 rfl) (dk_at D_Word_isBelow 5 rfl) (by decide) (by omega) (by omega) (fun c_9 => ?_) (fun c_9 => ?_)
  · have e : decide (v < v') = false := decide_eq_false (by omega)
    rw [e]
    refine r_iconst hk (dk_at D_Word_isBelow 8 rfl) ?_
    first | exact r_bret (b := true) hk (dk_at D_Word_isBelow 9 rfl) ex.rf | exact r_bret (b := false) hk (dk_at D_Word_isBelow 9 rfl) ex.rf
  · have e : decide (v < v') = true := decide_eq_true (by omega)
    rw [e]
    refine r_iconst hk (dk_at D_Word_isBelow 6 rfl) ?_
    refine r_goto (t := 17) hk (dk_at D_Word_isBelow 7 rfl) (by decide) ?_
    first | exact r_bret (b := true) hk (dk_at D_Word_isBelow 9 rfl) ex.rf | exact r_bret (b := false) hk (dk_at D_Word_isBelow 9 rfl) ex.rf
/-- some digits' number: v / 10^a % 10^m -/
theorem c_Word_part (G : Gt) {ad : Ix → Nat} {w : Wt} {i j : Ix} {v a m : Nat} {x : Value} (h1 : w i = some (.inl (3, [.ref (ad j), x]))) (h2 : w j = some (da v)) (ham : a + m ≤ 10) (hm : m ≤ 4) : Mt G y_Word_part w_Word_part 0 0 0 [.ref (ad i), .int (i32 a), .int (i32 m)] ad w (ex (some (.int (i32 ((v / 10 ^ a % 10 ^ m : Nat) : Int)))) ad w) noT := by
  refine Mt.to [some (.ref (ad i)), some (.int (i32 a)), some (.int (i32 m)), none, none] (fun K hk hR hin => ?_)
  have loop : ∀ n : Nat, n ≤ m → ∀ (u k : Int), u = ((v / 10 ^ (a + n) % 10 ^ (m - n) : Nat) : Int) → k = (a : Int) + n - 1 → V G K 5 (QE G K (ex (some (.int (i32 ((v / 10 ^ a % 10 ^ m : Nat) : Int)))) ad w) noT 0 0) 0 0 9 [some (.ref (ad i)), some (.int (i32 a)), some (.int (i32 m)), some (.int (i32 u)), some (.int (i32 k))] [] ad w := by
    refine ndown (fun n ih hn u k hu hkk => ?_)
    refine r_iload (i := 4) hk (dk_at D_Word_part 8 rfl) rfl ?_
    refine r_iload_n (i := 1) hk (dk_at D_Word_part 9 rfl) rfl rfl ?_
    refine r_icmp_lt (t := 34) hk (dk_at D_Word_part 10 rfl) (by decide) (by omega) (by omega) (fun c_12 => ?_) (fun c_12 => ?_)
    · obtain rfl : n = 0 := by omega
      rw [Nat.add_zero, Nat.sub_zero] at hu
      subst hu
      refine r_iload_n (i := 3) hk (dk_at D_Word_part 22 rfl) rfl rfl ?_
      exact r_iret hk (dk_at D_Word_part 23 rfl) ex.rf
    · obtain ⟨b, rfl⟩ : ∃ b, n = b + 1 := ⟨n - 1, by omega⟩
      have hd := dgt_lt v (a + b)
      have hq := dgt_mod v (a + b) (m - (b + 1))
      rw [show m - (b + 1) + 1 = m - b by omega] at hq
      rw [show a + (b + 1) = a + b + 1 by omega] at hu
      refine r_bipush hk (dk_at D_Word_part 11 rfl) (by decide) ?_
      refine r_iload_n (i := 3) hk (dk_at D_Word_part 12 rfl) rfl rfl ?_
      refine r_imul hk (dk_at D_Word_part 13 rfl) ?_
      refine r_aload_n (i := 0) hk (dk_at D_Word_part 14 rfl) rfl rfl ?_
      refine r_get hk fl_Word_9 (dk_at D_Word_part 15 rfl) ?_
      refine r_iload (i := 4) hk (dk_at D_Word_part 16 rfl) rfl ?_
      refine r_iaload (ix := (a + b)) hk (dk_at D_Word_part 17 rfl) ?_
      refine r_iadd hk (dk_at D_Word_part 18 rfl) ?_
      refine r_istore_n (i := 3) (ls' := [_, _, _, _, _]) hk (dk_at D_Word_part 19 rfl) rfl rfl rfl rfl ?_
      refine r_iinc (i := 4) (ls' := [_, _, _, _, _]) hk (dk_at D_Word_part 20 rfl) rfl rfl rfl rfl ?_
      refine r_goto (t := 9) hk (dk_at D_Word_part 21 rfl) (by decide) ?_
      exact ih b rfl (by omega) _ _ (by rw [hq]; omega) (by omega)
  refine r_iconst hk (dk_at D_Word_part 0 rfl) ?_
  refine r_istore_n (i := 3) (ls' := [_, _, _, _, _]) hk (dk_at D_Word_part 1 rfl) rfl rfl rfl rfl ?_
  refine r_iload_n (i := 1) hk (dk_at D_Word_part 2 rfl) rfl rfl ?_
  refine r_iload_n (i := 2) hk (dk_at D_Word_part 3 rfl) rfl rfl ?_
  refine r_iadd hk (dk_at D_Word_part 4 rfl) ?_
  refine r_iconst hk (dk_at D_Word_part 5 rfl) ?_
  refine r_isub hk (dk_at D_Word_part 6 rfl) ?_
  refine r_istore (i := 4) (ls' := [_, _, _, _, _]) hk (dk_at D_Word_part 7 rfl) rfl rfl rfl ?_
  exact loop m (Nat.le_refl _) _ _ (by rw [Nat.sub_self, Nat.pow_zero, Nat.mod_one]; rfl) rfl
theorem c_Word_setAddress (G : Gt) {ad : Ix → Nat} {w : Wt} {i j : Ix} {v a : Nat} {x : Value} (h1 : w i = some (.inl (3, [.ref (ad j), x]))) (h2 : w j = some (da v)) (ha : a < 10000) : Mt G y_Word_setAddress w_Word_setAddress 0 0 0 [.ref (ad i), .int (i32 a)] ad w (ex none ad (up w j (some (da (sad v a))))) noT := by
  have hij := ij_ne h1 h2
  refine Mt.to [some (.ref (ad i)), some (.int (i32 a)), none, none] (fun K hk hR hin => ?_)
  have loop : ∀ n : Nat, n ≤ 4 → ∀ (u k : Int) (f : Nat → Value), u = ((a / 10 ^ n : Nat) : Int) → k = (n : Int) + 4 → (∀ m, m < n + 4 → f m = dg (sad v a) m) → (∀ m, n + 4 ≤ m → f m = dg v m) → V G K 4 (QE G K (ex none ad (up w j (some (da (sad v a))))) noT 0 0) 0 0 4 [some (.ref (ad i)), some (.int (i32 a)), some (.int (i32 u)), some (.int (i32 k))] [] ad (up w j (some (.inr (0, 10, f)))) := by
    refine nup 4 (fun n hn ih u k f hu hkk hf hg => ?_)
    have hle : a / 10 ^ n ≤ a := Nat.div_le_self _ _
    refine r_iload_n (i := 3) hk (dk_at D_Word_setAddress 4 rfl) rfl rfl ?_
    refine r_bipush hk (dk_at D_Word_setAddress 5 rfl) (by decide) ?_
    refine r_icmp_ge (t := 31) hk (dk_at D_Word_setAddress 6 rfl) (by decide) (by omega) (by omega) (fun c_7 => ?_) (fun c_7 => ?_)
    · obtain rfl : n = 4 := by omega
      refine r_arr (g := dg (sad v a)) (fun k hk => ?_) ?_
      · by_cases h : k < 4 + 4
        · exact hf k h
        · rw [hg k (by omega)]; exact dg_eq (by rw [sad_hi v a k (by omega) ha])
      exact r_vret hk (dk_at D_Word_setAddress 20 rfl) ex.rf
    · have hd := dgt_lt a n
      have hq := dgt_step a n
      refine r_aload_n (i := 0) hk (dk_at D_Word_setAddress 7 rfl) rfl rfl ?_
      refine r_get hk fl_Word_9 (dk_at D_Word_setAddress 8 rfl) ?_ (hw := (up_n hij).trans h1)
      refine r_iload_n (i := 3) hk (dk_at D_Word_setAddress 9 rfl) rfl rfl ?_
      refine r_iload_n (i := 2) hk (dk_at D_Word_setAddress 10 rfl) rfl rfl ?_
      refine r_bipush hk (dk_at D_Word_setAddress 11 rfl) (by decide) ?_
      refine r_irem hk (dk_at D_Word_setAddress 12 rfl) (by omega) (by omega) ?_
      refine r_iastoreU (ix := (n + 4)) hk (dk_at D_Word_setAddress 13 rfl) ?_
      refine r_iload_n (i := 2) hk (dk_at D_Word_setAddress 14 rfl) rfl rfl ?_
      refine r_bipush hk (dk_at D_Word_setAddress 15 rfl) (by decide) ?_
      refine r_idiv hk (dk_at D_Word_setAddress 16 rfl) (by omega) (by omega) ?_
      refine r_istore_n (i := 2) (ls' := [_, _, _, _]) hk (dk_at D_Word_setAddress 17 rfl) rfl rfl rfl rfl ?_
      refine r_iinc (i := 3) (ls' := [_, _, _, _]) hk (dk_at D_Word_setAddress 18 rfl) rfl rfl rfl rfl ?_
      refine r_goto (t := 4) hk (dk_at D_Word_setAddress 19 rfl) (by decide) ?_
      refine ih (by omega) _ _ _ (by omega) (by omega) ?_ (fun m hm => ?_)
      · rw [show n + 1 + 4 = n + 4 + 1 by omega]
        exact ext_s hf (dg_eq (by rw [sad_dgt v a n (by omega) ha]; show u % 10 = ((a / 10 ^ n % 10 : Nat) : Int); omega))
      · rw [updV_n (by omega)]; exact hg m (by omega)
  refine r_iload_n (i := 1) hk (dk_at D_Word_setAddress 0 rfl) rfl rfl ?_
  refine r_istore_n (i := 2) (ls' := [_, _, _, _]) hk (dk_at D_Word_setAddress 1 rfl) rfl rfl rfl rfl ?_
  refine r_iconst hk (dk_at D_Word_setAddress 2 rfl) ?_
  refine r_istore_n (i := 3) (ls' := [_, _, _, _]) hk (dk_at D_Word_setAddress 3 rfl) rfl rfl rfl rfl ?_
  refine r_in h2 ?_
  exact loop 0 (Nat.zero_le _) _ _ _ (by rw [dgt_0]) rfl (fun m hm => (dg_eq (by rw [sad_lo v a m (by omega)])).symm) (fun m hm => rfl)
