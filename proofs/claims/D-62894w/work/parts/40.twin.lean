/-! the twin: multiply -/
theorem c_Mod_multiply (G : Gt) {w0 w : Wt} {ad : Ix → Nat} {cd : Int} {dv : Int} {mn : Bool} {dm : Bool} {ov : Bool} {nx : Int} {fl : Int} {t : Nat} {qn : Nat} {on : Nat} {m : Nat} {fu : Bool} {c : Nat → Nat → Nat} {g : Nat → Bool} {q : Nat → Nat × Bool} {o : Nat → Nat × Bool} {ln : Nat → Ln} {r : Nat → Bool} {p : Nat → Int} {hd : Nat → Bool} {at_ : Nat → Int} {wr : Nat → Int} {A : Nat} {v : Nat} {sg : Bool} (h : TX w0 ad w cd (((A / 10 ^ 10 : Nat) : Int)) (((A % 10 ^ 10 : Nat) : Int)) dv mn dm ov nx fl t qn on m fu c g q o ln r p hd at_ wr) (hA : A < 10 ^ 20) (hv : v < 10 ^ 10) : Mt G y_Mod_multiply w_Mod_multiply 0 0 0 [.ref (ad (50, 0)), .long (i64 v), .int (i32 (b2i sg))] ad w (fun rv ad' w' => rv = none ∧ ad' = ad ∧ TX w0 ad w' cd ((((A / 10 ^ 10 * v + A % 10 ^ 10) / 10 ^ 10 : Nat) : Int)) ((((A / 10 ^ 10 * v + A % 10 ^ 10) % 10 ^ 10 : Nat) : Int)) dv (mn ^^ sg) dm ov nx fl t qn on m fu c g q o ln r p hd at_ wr) noT := by
  refine Mt.to [some (.ref (ad (50, 0))), some (.long (i64 v)), none, some (.int (i32 (b2i sg))), none, none, none, none, none, none, none, none, none, none] (fun K hk hR hin => ?_)
  have hob := h.ob_
  have hU : A / 10 ^ 10 < 10 ^ 10 := by omega
  have hUv := mul_lt hU hv
  have loop : ∀ n : Nat, n ≤ 10 → ∀ (z x y u : Int) (X : Nat) (e9 : Option Value), X = A / 10 ^ 10 / 10 ^ (10 - n) * v → z = (n : Int) → x = ((X / 10 ^ 10 : Nat) : Int) → y = ((X % 10 ^ 10 : Nat) : Int) → u = ((10 ^ (10 - n) / 10 : Nat) : Int) → V G K 14 (QE G K (fun rv ad' w' => rv = none ∧ ad' = ad ∧ TX w0 ad w' cd ((((A / 10 ^ 10 * v + A % 10 ^ 10) / 10 ^ 10 : Nat) : Int)) ((((A / 10 ^ 10 * v + A % 10 ^ 10) % 10 ^ 10 : Nat) : Int)) dv (mn ^^ sg) dm ov nx fl t qn on m fu c g q o ln r p hd at_ wr) noT 0 0) 0 0 20 [some (.ref (ad (50, 0))), some (.long (i64 v)), none, some (.int (i32 (b2i sg))), some (.long (i64 ((A / 10 ^ 10 : Nat) : Int))), none, some (.long (i64 x)), none, some (.long (i64 y)), none, some (.long (i64 u)), none, some (.int (i32 z)), e9] [] ad w := by
    refine nup 10 (fun n hn ih z x y u X e9 hX hz hx hy hu => ?_)
    subst hz
    have hXl : X ≤ A / 10 ^ 10 * v := by rw [hX]; exact Nat.mul_le_mul_right _ (Nat.div_le_self _ _)
    subst hx hy
    refine r_iload (i := 12) hk (dk_at D_Mod_multiply 11 rfl) rfl ?_
    refine r_bipush hk (dk_at D_Mod_multiply 12 rfl) (by decide) ?_
    refine r_icmp_ge (t := 90) hk (dk_at D_Mod_multiply 13 rfl) (by decide) (by omega) (by omega) (fun c_24 => ?_) (fun c_24 => ?_)
    · obtain rfl : n = 10 := by omega
      rw [show 10 - 10 = 0 from rfl, Nat.pow_zero, Nat.div_one] at hX
      rw [← hX] at hUv ⊢
      clear hXl hX
      refine r_in hob ?_
      refine r_lload (i := 8) hk (dk_at D_Mod_multiply 48 rfl) rfl ?_
      refine r_aload_n (i := 0) hk (dk_at D_Mod_multiply 49 rfl) rfl rfl ?_
      refine r_get hk fl_Mod_115 (dk_at D_Mod_multiply 50 rfl) ?_ (hw := up_s)
      refine r_ladd hk (dk_at D_Mod_multiply 51 rfl) ?_
      refine r_lstore (i := 8) (ls' := [_, _, _, _, _, _, _, _, _, _, _, _, _, _]) hk (dk_at D_Mod_multiply 52 rfl) rfl rfl rfl ?_
      refine r_lload (i := 6) hk (dk_at D_Mod_multiply 53 rfl) rfl ?_
      refine r_lload (i := 8) hk (dk_at D_Mod_multiply 54 rfl) rfl ?_
      refine r_ldc2 hk kl_Mod_65 (dk_at D_Mod_multiply 55 rfl) ?_
      refine r_ldiv hk (dk_at D_Mod_multiply 56 rfl) (by omega) (by omega) ?_
      refine r_ladd hk (dk_at D_Mod_multiply 57 rfl) ?_
      refine r_lstore (i := 6) (ls' := [_, _, _, _, _, _, _, _, _, _, _, _, _, _]) hk (dk_at D_Mod_multiply 58 rfl) rfl rfl rfl ?_
      refine r_aload_n (i := 0) hk (dk_at D_Mod_multiply 59 rfl) rfl rfl ?_
      refine r_lload (i := 8) hk (dk_at D_Mod_multiply 60 rfl) rfl ?_
      refine r_ldc2 hk kl_Mod_65 (dk_at D_Mod_multiply 61 rfl) ?_
      refine r_lrem hk (dk_at D_Mod_multiply 62 rfl) (by omega) (by omega) ?_
      refine r_topl (x' := (((X + A % 10 ^ 10) % 10 ^ 10 : Nat) : Int)) (by omega) ?_
      refine r_put (fs' := [_, _, _, _, _, _, _, _, _, _, _, _, _, _, _, _, _, _, _, _, _, _, _, _, _, _, _, _]) hk fl_Mod_115 ft_Mod_4 (dk_at D_Mod_multiply 63 rfl) ?_ (hw := up_s)
      refine r_we up_up ?_
      refine r_aload_n (i := 0) hk (dk_at D_Mod_multiply 64 rfl) rfl rfl ?_
      refine r_lload (i := 6) hk (dk_at D_Mod_multiply 65 rfl) rfl ?_
      refine r_ldc2 hk kl_Mod_65 (dk_at D_Mod_multiply 66 rfl) ?_
      refine r_lrem hk (dk_at D_Mod_multiply 67 rfl) (by omega) (by omega) ?_
      refine r_topl (x' := (((X + A % 10 ^ 10) / 10 ^ 10 : Nat) : Int)) (by omega) ?_
      refine r_put (fs' := [_, _, _, _, _, _, _, _, _, _, _, _, _, _, _, _, _, _, _, _, _, _, _, _, _, _, _, _]) hk fl_Mod_118 ft_Mod_3 (dk_at D_Mod_multiply 68 rfl) ?_ (hw := up_s)
      refine r_we up_up ?_
      refine r_aload_n (i := 0) hk (dk_at D_Mod_multiply 69 rfl) rfl rfl ?_
      refine r_aload_n (i := 0) hk (dk_at D_Mod_multiply 70 rfl) rfl rfl ?_
      refine r_get hk fl_Mod_111 (dk_at D_Mod_multiply 71 rfl) ?_ (hw := up_s)
      refine r_iload_n (i := 3) hk (dk_at D_Mod_multiply 72 rfl) rfl rfl ?_
      refine r_icmp_eqB (t := 143) hk (dk_at D_Mod_multiply 73 rfl) (by decide) (fun c_136 => ?_) (fun c_136 => ?_)
      · rw [xor_f c_136]
        refine r_iconst hk (dk_at D_Mod_multiply 76 rfl) ?_
        refine r_put (fs' := [_, _, _, _, _, _, _, _, _, _, _, _, _, _, _, _, _, _, _, _, _, _, _, _, _, _, _, _]) hk fl_Mod_111 ft_Mod_6 (dk_at D_Mod_multiply 77 rfl) ?_ (hn := rfl) (hfit := rfl) (hw := up_s)
        refine r_we up_up ?_
        first | exact r_vret hk (dk_at D_Mod_multiply 78 rfl) ⟨rfl, rfl, h.sc (mn' := true)⟩ | exact r_vret hk (dk_at D_Mod_multiply 78 rfl) ⟨rfl, rfl, h.sc (mn' := false)⟩
      · rw [xor_t c_136]
        refine r_iconst hk (dk_at D_Mod_multiply 74 rfl) ?_
        refine r_goto (t := 144) hk (dk_at D_Mod_multiply 75 rfl) (by decide) ?_
        refine r_put (fs' := [_, _, _, _, _, _, _, _, _, _, _, _, _, _, _, _, _, _, _, _, _, _, _, _, _, _, _, _]) hk fl_Mod_111 ft_Mod_6 (dk_at D_Mod_multiply 77 rfl) ?_ (hn := rfl) (hfit := rfl) (hw := up_s)
        refine r_we up_up ?_
        first | exact r_vret hk (dk_at D_Mod_multiply 78 rfl) ⟨rfl, rfl, h.sc (mn' := true)⟩ | exact r_vret hk (dk_at D_Mod_multiply 78 rfl) ⟨rfl, rfl, h.sc (mn' := false)⟩
    · have e10 : (10 : Nat) ^ (10 - n) = 10 * 10 ^ (10 - (n + 1)) := by rw [show 10 - n = 10 - (n + 1) + 1 by omega, Nat.pow_succ, Nat.mul_comm]
      have eu : (10 : Nat) ^ (10 - n) / 10 = 10 ^ (10 - (n + 1)) := by rw [e10]; exact Nat.mul_div_cancel_left _ (by decide)
      rw [eu] at hu
      have hPp : 0 < 10 ^ (10 - (n + 1)) := Nat.pow_pos (by decide)
      have hPl : 10 ^ (10 - (n + 1)) ≤ 10 ^ 10 := p_le (by omega)
      have hstep := dgt_step (A / 10 ^ 10) (10 - (n + 1))
      rw [show 10 - (n + 1) + 1 = 10 - n by omega] at hstep
      have hdl := dgt_lt (A / 10 ^ 10) (10 - (n + 1))
      have hdd : A / 10 ^ 10 / 10 ^ (10 - (n + 1)) % 10 = dgt (A / 10 ^ 10) (10 - (n + 1)) := rfl
      have hX2 : A / 10 ^ 10 / 10 ^ (10 - (n + 1)) * v = 10 * X + dgt (A / 10 ^ 10) (10 - (n + 1)) * v := by rw [hstep, Nat.add_mul, Nat.mul_assoc, ← hX]
      have hDv : dgt (A / 10 ^ 10) (10 - (n + 1)) * v ≤ 9 * v := Nat.mul_le_mul_right _ (by omega)
      have hE0 : A / 10 ^ 10 / 10 ^ (10 - (n + 1)) ≤ A / 10 ^ 10 := Nat.div_le_self _ _
      have hih := fun z x y u e9 => ih (by omega) z x y u (10 * X + dgt (A / 10 ^ 10) (10 - (n + 1)) * v) e9 hX2.symm
      clear ih hX hX2 hstep
      generalize hEE : A / 10 ^ 10 / 10 ^ (10 - (n + 1)) = E at hdd hE0
      generalize hPP : (10 : Nat) ^ (10 - (n + 1)) = P at *
      generalize dgt (A / 10 ^ 10) (10 - (n + 1)) = D at *
      subst hu
      refine r_lload (i := 4) hk (dk_at D_Mod_multiply 14 rfl) rfl ?_
      refine r_lload (i := 10) hk (dk_at D_Mod_multiply 15 rfl) rfl ?_
      refine r_ldiv hk (dk_at D_Mod_multiply 16 rfl) (by omega) (by omega) ?_
      refine r_topl (x' := ((E : Nat) : Int)) (by rw [← hEE]; exact (Int.natCast_ediv _ _).symm) ?_
      refine r_ldc2 hk kl_Mod_67 (dk_at D_Mod_multiply 17 rfl) ?_
      refine r_lrem hk (dk_at D_Mod_multiply 18 rfl) (by omega) (by omega) ?_
      refine r_l2i hk (dk_at D_Mod_multiply 19 rfl) ?_
      refine r_topi (x' := ((D : Nat) : Int)) (by omega) ?_
      refine r_istore (i := 13) (ls' := [_, _, _, _, _, _, _, _, _, _, _, _, _, _]) hk (dk_at D_Mod_multiply 20 rfl) rfl rfl rfl ?_
      refine r_ldc2 hk kl_Mod_67 (dk_at D_Mod_multiply 21 rfl) ?_
      refine r_lload (i := 8) hk (dk_at D_Mod_multiply 22 rfl) rfl ?_
      refine r_lmul hk (dk_at D_Mod_multiply 23 rfl) ?_
      refine r_iload (i := 13) hk (dk_at D_Mod_multiply 24 rfl) rfl ?_
      refine r_i2l hk (dk_at D_Mod_multiply 25 rfl) (by omega) ?_
      refine r_lload_n (i := 1) hk (dk_at D_Mod_multiply 26 rfl) rfl rfl ?_
      refine r_lmul hk (dk_at D_Mod_multiply 27 rfl) ?_
      refine r_topl (x' := ((D * v : Nat) : Int)) (Int.natCast_mul _ _).symm ?_
      generalize hDD : D * v = W at *
      refine r_ladd hk (dk_at D_Mod_multiply 28 rfl) ?_
      refine r_lstore (i := 8) (ls' := [_, _, _, _, _, _, _, _, _, _, _, _, _, _]) hk (dk_at D_Mod_multiply 29 rfl) rfl rfl rfl ?_
      refine r_ldc2 hk kl_Mod_67 (dk_at D_Mod_multiply 30 rfl) ?_
      refine r_lload (i := 6) hk (dk_at D_Mod_multiply 31 rfl) rfl ?_
      refine r_lmul hk (dk_at D_Mod_multiply 32 rfl) ?_
      refine r_lload (i := 8) hk (dk_at D_Mod_multiply 33 rfl) rfl ?_
      refine r_ldc2 hk kl_Mod_65 (dk_at D_Mod_multiply 34 rfl) ?_
      refine r_ldiv hk (dk_at D_Mod_multiply 35 rfl) (by omega) (by omega) ?_
      refine r_ladd hk (dk_at D_Mod_multiply 36 rfl) ?_
      refine r_lstore (i := 6) (ls' := [_, _, _, _, _, _, _, _, _, _, _, _, _, _]) hk (dk_at D_Mod_multiply 37 rfl) rfl rfl rfl ?_
      refine r_lload (i := 8) hk (dk_at D_Mod_multiply 38 rfl) rfl ?_
      refine r_ldc2 hk kl_Mod_65 (dk_at D_Mod_multiply 39 rfl) ?_
      refine r_lrem hk (dk_at D_Mod_multiply 40 rfl) (by omega) (by omega) ?_
      refine r_lstore (i := 8) (ls' := [_, _, _, _, _, _, _, _, _, _, _, _, _, _]) hk (dk_at D_Mod_multiply 41 rfl) rfl rfl rfl ?_
      refine r_lload (i := 10) hk (dk_at D_Mod_multiply 42 rfl) rfl ?_
      refine r_ldc2 hk kl_Mod_67 (dk_at D_Mod_multiply 43 rfl) ?_
      refine r_ldiv hk (dk_at D_Mod_multiply 44 rfl) (by omega) (by omega) ?_
      refine r_lstore (i := 10) (ls' := [_, _, _, _, _, _, _, _, _, _, _, _, _, _]) hk (dk_at D_Mod_multiply 45 rfl) rfl rfl rfl ?_
      refine r_iinc (i := 12) (ls' := [_, _, _, _, _, _, _, _, _, _, _, _, _, _]) hk (dk_at D_Mod_multiply 46 rfl) rfl rfl rfl rfl ?_
      refine r_goto (t := 20) hk (dk_at D_Mod_multiply 47 rfl) (by decide) ?_
      exact hih _ _ _ _ _ (by omega) (by omega) (by omega) (by omega)
  refine r_aload_n (i := 0) hk (dk_at D_Mod_multiply 0 rfl) rfl rfl ?_
  refine r_get hk fl_Mod_118 (dk_at D_Mod_multiply 1 rfl) ?_ (hw := hob)
  refine r_lstore (i := 4) (ls' := [_, _, _, _, _, _, _, _, _, _, _, _, _, _]) hk (dk_at D_Mod_multiply 2 rfl) rfl rfl rfl ?_
  refine r_lconst (z := 0) hk (dk_at D_Mod_multiply 3 rfl) rfl ?_
  refine r_lstore (i := 6) (ls' := [_, _, _, _, _, _, _, _, _, _, _, _, _, _]) hk (dk_at D_Mod_multiply 4 rfl) rfl rfl rfl ?_
  refine r_lconst (z := 0) hk (dk_at D_Mod_multiply 5 rfl) rfl ?_
  refine r_lstore (i := 8) (ls' := [_, _, _, _, _, _, _, _, _, _, _, _, _, _]) hk (dk_at D_Mod_multiply 6 rfl) rfl rfl rfl ?_
  refine r_ldc2 hk kl_Mod_124 (dk_at D_Mod_multiply 7 rfl) ?_
  refine r_lstore (i := 10) (ls' := [_, _, _, _, _, _, _, _, _, _, _, _, _, _]) hk (dk_at D_Mod_multiply 8 rfl) rfl rfl rfl ?_
  refine r_iconst hk (dk_at D_Mod_multiply 9 rfl) ?_
  refine r_istore (i := 12) (ls' := [_, _, _, _, _, _, _, _, _, _, _, _, _, _]) hk (dk_at D_Mod_multiply 10 rfl) rfl rfl rfl ?_
  exact loop 0 (Nat.zero_le _) _ _ _ _ 0 _ (by rw [Nat.sub_zero, Nat.div_eq_of_lt hU, Nat.zero_mul]) rfl rfl rfl (by decide)
