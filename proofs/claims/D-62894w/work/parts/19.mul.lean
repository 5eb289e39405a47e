/-! DrumMachine.Accumulator: multiply, divide -/
/-- the sum of the lowest n digits -/
def ds (v : Nat) : Nat → Nat
  | 0 => 0
  | n + 1 => ds v n + dgt v n
theorem ds_le (v n : Nat) : ds v n ≤ 9 * n := by
  induction n with
  | zero => exact Nat.le_refl _
  | succ n ih => have := dgt_lt v n; simp only [ds]; omega
def mulW (ad : Ix → Nat) (w : Wt) (A : Nat) (mn : Bool) : Wt := up (up (up (up w (7, 0) (some (da (A / 10 ^ 10)))) (6, 0) (some (wo ad (7, 0) mn))) (9, 0) (some (da (A % 10 ^ 10)))) (8, 0) (some (wo ad (9, 0) mn))
theorem mul_lt {a b : Nat} (ha : a < 10 ^ 10) (hb : b < 10 ^ 10) : a * b ≤ 10 ^ 20 - 2 * 10 ^ 10 + 1 := by
  have h : a * b ≤ (10 ^ 10 - 1) * (10 ^ 10 - 1) := Nat.mul_le_mul (by omega) (by omega)
  exact h
theorem xor_f {a b : Bool} (h : a = b) : (a ^^ b) = false := by subst h; cases a <;> rfl
theorem xor_t {a b : Bool} (h : a ≠ b) : (a ^^ b) = true := by revert h; cases a <;> cases b <;> decide
theorem c_Acc_multiply (G : Gt) {ad : Ix → Nat} {w : Wt} {A : Nat} {mn ov : Bool} {v : Nat} {sg : Bool} {x6 x8 : Value} {g7 g9 : Nat → Value} (hA : w (4, 0) = some (ac ad mn ov)) (h5 : w (5, 0) = some (aa A)) (h6 : w (6, 0) = some (.inl (3, [.ref (ad (7, 0)), x6]))) (h7 : w (7, 0) = some (.inr (0, 10, g7))) (h8 : w (8, 0) = some (.inl (3, [.ref (ad (9, 0)), x8]))) (h9 : w (9, 0) = some (.inr (0, 10, g9))) (h14 : w (14, 0) = some (wo ad (15, 0) sg)) (h15 : w (15, 0) = some (da v)) (hv : v < 10 ^ 10) (hlt : A < 10 ^ 20) : Mt G y_Acc_multiply w_Acc_multiply 1 0 0 [.ref (ad (4, 0)), .ref (ad (14, 0))] ad w (ex (some (.int (i32 ((20 + 2 * ds (A / 10 ^ 10) 10 : Nat) : Int)))) ad (up (up (mulW ad w A mn) (5, 0) (some (aa (A / 10 ^ 10 * v + A % 10 ^ 10)))) (4, 0) (some (ac ad (mn ^^ sg) ov)))) noT := by
  refine Mt.to [some (.ref (ad (4, 0))), some (.ref (ad (14, 0))), none, none, none] (fun K hk hR hin => ?_)
  have hU : A / 10 ^ 10 < 10 ^ 10 := by omega
  have hL : A % 10 ^ 10 < 10 ^ 10 := by omega
  refine r_bipush hk (dk_at D_Acc_multiply 0 rfl) (by decide) ?_
  refine r_istore_n (i := 2) (ls' := [_, _, _, _, _]) hk (dk_at D_Acc_multiply 1 rfl) rfl rfl rfl rfl ?_
  refine r_aload_n (i := 0) hk (dk_at D_Acc_multiply 2 rfl) rfl rfl ?_
  refine r_iconst hk (dk_at D_Acc_multiply 3 rfl) ?_
  refine r_aload_n (i := 0) hk (dk_at D_Acc_multiply 4 rfl) rfl rfl ?_
  refine r_get hk fl_Acc_18 (dk_at D_Acc_multiply 5 rfl) ?_
  refine r_callVv hk hR m_Acc_half s_Acc_half ml_Acc_47 (dk_at D_Acc_multiply 6 rfl) (c_Acc_half G (u := true) (i := (6, 0)) (j := (7, 0)) hA h5 h6 h7) ?_
  refine r_aload_n (i := 0) hk (dk_at D_Acc_multiply 7 rfl) rfl rfl ?_
  refine r_iconst hk (dk_at D_Acc_multiply 8 rfl) ?_
  refine r_aload_n (i := 0) hk (dk_at D_Acc_multiply 9 rfl) rfl rfl ?_
  refine r_get hk fl_Acc_22 (dk_at D_Acc_multiply 10 rfl) ?_
  refine r_callVv hk hR m_Acc_half s_Acc_half ml_Acc_47 (dk_at D_Acc_multiply 11 rfl) (c_Acc_half G (u := false) (i := (8, 0)) (j := (9, 0)) hA h5 h8 h9) ?_
  refine r_we (show _ = mulW ad w A mn from rfl) ?_
  have e4 : mulW ad w A mn (4, 0) = some (ac ad mn ov) := hA
  have e5 : mulW ad w A mn (5, 0) = some (aa A) := h5
  have e6 : mulW ad w A mn (6, 0) = some (wo ad (7, 0) mn) := rfl
  have e7 : mulW ad w A mn (7, 0) = some (da (A / 10 ^ 10)) := rfl
  have e8 : mulW ad w A mn (8, 0) = some (wo ad (9, 0) mn) := rfl
  have e9 : mulW ad w A mn (9, 0) = some (da (A % 10 ^ 10)) := rfl
  have e14 : mulW ad w A mn (14, 0) = some (wo ad (15, 0) sg) := h14
  have e15 : mulW ad w A mn (15, 0) = some (da v) := h15
  clear hA h5 h6 h7 h8 h9 h14 h15
  generalize mulW ad w A mn = w2 at *
  generalize A / 10 ^ 10 = U at *
  generalize A % 10 ^ 10 = L at *
  refine r_aload_n (i := 0) hk (dk_at D_Acc_multiply 12 rfl) rfl rfl ?_
  refine r_callVv hk hR m_Acc_empty s_Acc_empty ml_Acc_25 (dk_at D_Acc_multiply 13 rfl) (c_Acc_empty G e4 e5) ?_
  refine r_bipush hk (dk_at D_Acc_multiply 14 rfl) (by decide) ?_
  refine r_istore_n (i := 3) (ls' := [_, _, _, _, _]) hk (dk_at D_Acc_multiply 15 rfl) rfl rfl rfl rfl ?_
  have hUv : U * v ≤ 10 ^ 20 - 2 * 10 ^ 10 + 1 := mul_lt hU hv
  have loop : ∀ n : Nat, n ≤ 10 → ∀ (t k : Int), t = ((20 + 2 * (ds U 10 - ds U n) : Nat) : Int) → k = (n : Int) - 1 → ds U n ≤ ds U 10 → V G K 5 (QE G K (ex (some (.int (i32 ((20 + 2 * ds (U) 10 : Nat) : Int)))) ad (up (up (w2) (5, 0) (some (aa (U * v + L)))) (4, 0) (some (ac ad (mn ^^ sg) ov)))) noT 0 0) 0 0 28 [some (.ref (ad (4, 0))), some (.ref (ad (14, 0))), some (.int (i32 t)), some (.int (i32 k)), none] [] ad (up w2 (5, 0) (some (aa (U / 10 ^ n * v)))) := by
    refine ndown (fun n ih hn t k ht hkk hds => ?_)
    refine r_iload_n (i := 3) hk (dk_at D_Acc_multiply 16 rfl) rfl rfl ?_
    refine r_if_lt (t := 87) hk (dk_at D_Acc_multiply 17 rfl) (by decide) (by omega) (fun c_29 => ?_) (fun c_29 => ?_)
    · obtain rfl : n = 0 := by omega
      have es : ds U 0 = 0 := rfl
      rw [Nat.pow_zero, Nat.div_one]
      refine r_aload_n (i := 0) hk (dk_at D_Acc_multiply 49 rfl) rfl rfl ?_
      refine r_aload_n (i := 0) hk (dk_at D_Acc_multiply 50 rfl) rfl rfl ?_
      refine r_get hk fl_Acc_22 (dk_at D_Acc_multiply 51 rfl) ?_
      refine r_iconst hk (dk_at D_Acc_multiply 52 rfl) ?_
      refine r_callV hk hR m_Acc_plus s_Acc_plus ml_Acc_34 (dk_at D_Acc_multiply 53 rfl) (c_Acc_plus G (a := 0) (i := (8, 0)) (j := (9, 0)) e4 up_s e8 e9 hL (by omega) (Or.inl rfl) (by intro e; cases e)) ?_
      rw [up_up, show (U * v + L * 10 ^ 0) % 10 ^ 20 = U * v + L by omega]
      refine r_pop hk (dk_at D_Acc_multiply 54 rfl) rfl ?_
      refine r_aload_n (i := 0) hk (dk_at D_Acc_multiply 55 rfl) rfl rfl ?_
      refine r_aload_n (i := 0) hk (dk_at D_Acc_multiply 56 rfl) rfl rfl ?_
      refine r_get hk fl_Acc_28 (dk_at D_Acc_multiply 57 rfl) ?_
      refine r_aload_n (i := 1) hk (dk_at D_Acc_multiply 58 rfl) rfl rfl ?_
      refine r_getN hk fl_Acc_33 (dk_at D_Acc_multiply 59 rfl) ?_
      refine r_icmp_eqB (t := 113) hk (dk_at D_Acc_multiply 60 rfl) (by decide) (fun c_106 => ?_) (fun c_106 => ?_)
      · rw [xor_f c_106]
        refine r_iconst hk (dk_at D_Acc_multiply 63 rfl) ?_
        first
          | refine r_put (fs' := [_, .int (i32 (b2i true)), _, _, _]) hk fl_Acc_28 ft_Acc_1 (dk_at D_Acc_multiply 64 rfl) ?_
          | refine r_put (fs' := [_, .int (i32 (b2i false)), _, _, _]) hk fl_Acc_28 ft_Acc_1 (dk_at D_Acc_multiply 64 rfl) ?_
        refine r_iload_n (i := 2) hk (dk_at D_Acc_multiply 65 rfl) rfl rfl ?_
        exact r_iret hk (dk_at D_Acc_multiply 66 rfl) ⟨by rw [ht, es, Nat.sub_zero], rfl, rfl⟩
      · rw [xor_t c_106]
        refine r_iconst hk (dk_at D_Acc_multiply 61 rfl) ?_
        refine r_goto (t := 114) hk (dk_at D_Acc_multiply 62 rfl) (by decide) ?_
        first
          | refine r_put (fs' := [_, .int (i32 (b2i true)), _, _, _]) hk fl_Acc_28 ft_Acc_1 (dk_at D_Acc_multiply 64 rfl) ?_
          | refine r_put (fs' := [_, .int (i32 (b2i false)), _, _, _]) hk fl_Acc_28 ft_Acc_1 (dk_at D_Acc_multiply 64 rfl) ?_
        refine r_iload_n (i := 2) hk (dk_at D_Acc_multiply 65 rfl) rfl rfl ?_
        exact r_iret hk (dk_at D_Acc_multiply 66 rfl) ⟨by rw [ht, es, Nat.sub_zero], rfl, rfl⟩
    · obtain ⟨m, rfl⟩ : ∃ m, n = m + 1 := ⟨n - 1, by omega⟩
      have hq := dgt_step U m
      have hd := dgt_lt U m
      have hsl := ds_le U 10
      have hm1 : U / 10 ^ m ≤ U := Nat.div_le_self _ _
      have hm2 : U / 10 ^ m * v ≤ U * v := Nat.mul_le_mul_right _ hm1
      rw [hq, Nat.add_mul, Nat.mul_assoc] at hm2
      generalize hX : U / 10 ^ (m + 1) * v = X at *
      generalize hdv : dgt U m * v = dv at *
      refine r_aload_n (i := 0) hk (dk_at D_Acc_multiply 18 rfl) rfl rfl ?_
      refine r_iconst hk (dk_at D_Acc_multiply 19 rfl) ?_
      refine r_callVv hk hR m_Acc_shiftLeft s_Acc_shiftLeft ml_Acc_51 (dk_at D_Acc_multiply 20 rfl) (c_Acc_shiftLeft G (b := 1) e4 up_s (by omega)) ?_
      rw [up_up, show X * 10 ^ 1 % 10 ^ 20 = 10 * X by omega]
      refine r_iconst hk (dk_at D_Acc_multiply 21 rfl) ?_
      refine r_istore (i := 4) (ls' := [_, _, _, _, _]) hk (dk_at D_Acc_multiply 22 rfl) rfl rfl rfl ?_
      have inner : ∀ c : Nat, c ≤ dgt U m → ∀ (z : Int) (Y : Nat), z = (c : Int) → Y = 10 * X + c * v → V G K 5 (QE G K (ex (some (.int (i32 ((20 + 2 * ds (U) 10 : Nat) : Int)))) ad (up (up (w2) (5, 0) (some (aa (U * v + L)))) (4, 0) (some (ac ad (mn ^^ sg) ov)))) noT 0 0) 0 0 40 [some (.ref (ad (4, 0))), some (.ref (ad (14, 0))), some (.int (i32 t)), some (.int (i32 k)), some (.int (i32 z))] [] ad (up w2 (5, 0) (some (aa Y))) := by
        refine nup (dgt U m) (fun c hc ih2 z Y hz hY => ?_)
        have hcv : c * v ≤ dv := by rw [← hdv]; exact Nat.mul_le_mul_right _ hc
        refine r_iload (i := 4) hk (dk_at D_Acc_multiply 23 rfl) rfl ?_
        refine r_aload_n (i := 0) hk (dk_at D_Acc_multiply 24 rfl) rfl rfl ?_
        refine r_get hk fl_Acc_18 (dk_at D_Acc_multiply 25 rfl) ?_
        refine r_getN hk fl_Acc_32 (dk_at D_Acc_multiply 26 rfl) ?_
        refine r_iload_n (i := 3) hk (dk_at D_Acc_multiply 27 rfl) rfl rfl ?_
        refine r_iaload (ix := m) hk (dk_at D_Acc_multiply 28 rfl) ?_
        refine r_icmp_ge (t := 67) hk (dk_at D_Acc_multiply 29 rfl) (by decide) (by omega) (by omega) (fun c_51 => ?_) (fun c_51 => ?_)
        · obtain rfl : c = dgt U m := by omega
          rw [hdv] at hY
          have hds2 : ds U (m + 1) = ds U m + dgt U m := rfl
          refine r_iload_n (i := 2) hk (dk_at D_Acc_multiply 37 rfl) rfl rfl ?_
          refine r_iconst hk (dk_at D_Acc_multiply 38 rfl) ?_
          refine r_aload_n (i := 0) hk (dk_at D_Acc_multiply 39 rfl) rfl rfl ?_
          refine r_get hk fl_Acc_18 (dk_at D_Acc_multiply 40 rfl) ?_
          refine r_getN hk fl_Acc_32 (dk_at D_Acc_multiply 41 rfl) ?_
          refine r_iload_n (i := 3) hk (dk_at D_Acc_multiply 42 rfl) rfl rfl ?_
          refine r_iaload (ix := m) hk (dk_at D_Acc_multiply 43 rfl) ?_
          refine r_imul hk (dk_at D_Acc_multiply 44 rfl) ?_
          refine r_iadd hk (dk_at D_Acc_multiply 45 rfl) ?_
          refine r_istore_n (i := 2) (ls' := [_, _, _, _, _]) hk (dk_at D_Acc_multiply 46 rfl) rfl rfl rfl rfl ?_
          refine r_iinc (i := 3) (ls' := [_, _, _, _, _]) hk (dk_at D_Acc_multiply 47 rfl) rfl rfl rfl rfl ?_
          refine r_goto (t := 28) hk (dk_at D_Acc_multiply 48 rfl) (by decide) ?_
          refine r_drop 4 (ls' := [_, _, _, _, _]) rfl ?_
          have hY2 : Y = U / 10 ^ m * v := by rw [hq, Nat.add_mul, Nat.mul_assoc, hX, hdv]; exact hY
          rw [hY2]
          exact ih m rfl (by omega) _ _ (by show _ + 2 * ((dgt U m : Nat) : Int) = _; omega) (by omega) (by omega)
        · have hcv2 : (c + 1) * v ≤ dv := by rw [← hdv]; exact Nat.mul_le_mul_right _ (by omega)
          rw [Nat.add_mul, Nat.one_mul] at hcv2
          refine r_aload_n (i := 0) hk (dk_at D_Acc_multiply 30 rfl) rfl rfl ?_
          refine r_aload_n (i := 1) hk (dk_at D_Acc_multiply 31 rfl) rfl rfl ?_
          refine r_iconst hk (dk_at D_Acc_multiply 32 rfl) ?_
          refine r_callV hk hR m_Acc_plus s_Acc_plus ml_Acc_34 (dk_at D_Acc_multiply 33 rfl) (c_Acc_plus G (a := 0) (i := (14, 0)) (j := (15, 0)) e4 up_s e14 e15 hv (by omega) (Or.inl rfl) (by intro e; cases e)) ?_
          rw [up_up, show (Y + v * 10 ^ 0) % 10 ^ 20 = Y + v by omega]
          refine r_pop hk (dk_at D_Acc_multiply 34 rfl) rfl ?_
          refine r_iinc (i := 4) (ls' := [_, _, _, _, _]) hk (dk_at D_Acc_multiply 35 rfl) rfl rfl rfl rfl ?_
          refine r_goto (t := 40) hk (dk_at D_Acc_multiply 36 rfl) (by decide) ?_
          exact ih2 (by omega) _ _ (by omega) (by rw [Nat.add_mul, Nat.one_mul]; omega)
      exact inner 0 (Nat.zero_le _) _ _ rfl (by omega)
  have h9 := loop 10 (Nat.le_refl _) (20 : Int) (9 : Int) (by omega) (by omega) (Nat.le_refl _)
  rw [show U / 10 ^ 10 * v = 0 by rw [Nat.div_eq_of_lt hU, Nat.zero_mul]] at h9
  exact h9
