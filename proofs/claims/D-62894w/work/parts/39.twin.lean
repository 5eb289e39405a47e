/-! the twin: sum, multiply, divide -/
theorem sumF : ∀ n, n < 100 → (kn n == some 2 || kn n == some 3) = true → (60 ≤ n ↔ (kn n == some 3) = true) ∧ (n % 10 < 2 ↔ n % 10 < 5) ∧ sb n = decide (n % 10 = 1 ∨ n % 10 = 6) ∧ (n % 10 = 7 ↔ n = 67) := by decide
theorem add_z {v : Nat} : v * 10 ^ 10 + 0 = v * 10 ^ 10 := Nat.add_zero _
theorem add_0 {v : Nat} : 0 * 10 ^ 10 + v = v * 10 ^ 0 := by rw [Nat.zero_mul, Nat.zero_add, Nat.pow_zero, Nat.mul_one]
theorem hi0 : ((0 / 10 ^ 10 : Nat) : Int) = 0 := by decide
theorem lo0 : ((0 % 10 ^ 10 : Nat) : Int) = 0 := by decide
theorem c_Mod_sum (G : Gt) {w0 w : Wt} {ad : Ix → Nat} {cd : Int} {dv : Int} {mn : Bool} {dm : Bool} {ov : Bool} {nx : Int} {fl : Int} {t : Nat} {qn : Nat} {on : Nat} {m : Nat} {fu : Bool} {c : Nat → Nat → Nat} {g : Nat → Bool} {q : Nat → Nat × Bool} {o : Nat → Nat × Bool} {ln : Nat → Ln} {r : Nat → Bool} {p : Nat → Int} {hd : Nat → Bool} {at_ : Nat → Int} {wr : Nat → Int} {A : Nat} {op k v : Nat} {sg : Bool} (h : TX w0 ad w cd (((A / 10 ^ 10 : Nat) : Int)) (((A % 10 ^ 10 : Nat) : Int)) dv mn dm ov nx fl t qn on m fu c g q o ln r p hd at_ wr) (hA : A < 10 ^ 20) (hv : v < 10 ^ 10) (hop : kn op = some k) (hk23 : k = 2 ∨ k = 3) : Mt G y_Mod_sum w_Mod_sum 1 0 0 [.ref (ad (50, 0)), .int (i32 op), .long (i64 v), .int (i32 (b2i sg))] ad w (fun rv ad' w' => rv = none ∧ ad' = ad ∧ TX w0 ad w' cd ((((adA (wkA0 k A) (v * 10 ^ wkP op) (wkS op sg == wkM0 k mn)) / 10 ^ 10 : Nat) : Int)) ((((adA (wkA0 k A) (v * 10 ^ wkP op) (wkS op sg == wkM0 k mn)) % 10 ^ 10 : Nat) : Int)) dv (adM (wkA0 k A) (v * 10 ^ wkP op) (wkM0 k mn) (wkS op sg == wkM0 k mn)) dm (adO (wkA0 k A) (v * 10 ^ wkP op) ov (wkS op sg == wkM0 k mn)) nx fl t qn on m fu c g q o ln r p hd at_ wr) noT := by
  have hop2 := (kn_lt hop).2
  obtain ⟨f1, f2, f3, f4⟩ := sumF op hop2 (by rw [hop]; rcases hk23 with e | e <;> subst e <;> rfl)
  have f1 : 60 ≤ op ↔ k = 3 := by rw [f1, hop]; rcases hk23 with e | e <;> subst e <;> decide
  refine Mt.to [some (.ref (ad (50, 0))), some (.int (i32 op)), some (.long (i64 v)), none, some (.int (i32 (b2i sg))), none, none] (fun K hk hR hin => ?_)
  have hA0 : wkA0 k A < 10 ^ 20 := by unfold wkA0; split <;> omega
  have m66 : ∀ (w : Wt) (b : Bool), b = wkS op sg → TX w0 ad w cd ((((wkA0 k A) / 10 ^ 10 : Nat) : Int)) ((((wkA0 k A) % 10 ^ 10 : Nat) : Int)) dv (wkM0 k mn) dm ov nx fl t qn on m fu c g q o ln r p hd at_ wr → V G K 7 (QE G K (fun rv ad' w' => rv = none ∧ ad' = ad ∧ TX w0 ad w' cd ((((adA (wkA0 k A) (v * 10 ^ wkP op) (wkS op sg == wkM0 k mn)) / 10 ^ 10 : Nat) : Int)) ((((adA (wkA0 k A) (v * 10 ^ wkP op) (wkS op sg == wkM0 k mn)) % 10 ^ 10 : Nat) : Int)) dv (adM (wkA0 k A) (v * 10 ^ wkP op) (wkM0 k mn) (wkS op sg == wkM0 k mn)) dm (adO (wkA0 k A) (v * 10 ^ wkP op) ov (wkS op sg == wkM0 k mn)) nx fl t qn on m fu c g q o ln r p hd at_ wr) noT 0 0) 0 0 66 [some (.ref (ad (50, 0))), some (.int (i32 op)), some (.long (i64 v)), none, some (.int (i32 (b2i sg))), some (.int (i32 ((op % 10 : Nat) : Int))), none] [.int (i32 (b2i b))] ad w := by
    intro w b hb h
    subst hb
    have hob := h.ob_
    refine r_istore (i := 6) (ls' := [_, _, _, _, _, _, _]) hk (dk_at D_Mod_sum 34 rfl) rfl rfl rfl ?_
    refine r_iload (i := 5) hk (dk_at D_Mod_sum 35 rfl) rfl ?_
    refine r_iconst hk (dk_at D_Mod_sum 36 rfl) ?_
    refine r_icmp_ge (t := 85) hk (dk_at D_Mod_sum 37 rfl) (by decide) (by omega) (by omega) (fun c_71 => ?_) (fun c_71 => ?_)
    · have eP : wkP op = 0 := if_neg (by omega)
      rw [eP, ← add_0]
      refine r_aload_n (i := 0) hk (dk_at D_Mod_sum 44 rfl) rfl rfl ?_
      refine r_lconst (z := 0) hk (dk_at D_Mod_sum 45 rfl) rfl ?_
      refine r_lload_n (i := 2) hk (dk_at D_Mod_sum 46 rfl) rfl rfl ?_
      refine r_iload (i := 6) hk (dk_at D_Mod_sum 47 rfl) rfl ?_
      refine r_callVqv hk hR m_Mod_add s_Mod_add ml_Mod_126 (dk_at D_Mod_sum 48 rfl) (c_Mod_add G (x := 0) (y := v) (s := wkS op sg) h hA0 (by decide) hv) (fun w h => ?_) (i := (50, 0)) (hw := hob)
      exact r_vret hk (dk_at D_Mod_sum 49 rfl) ⟨rfl, rfl, h⟩
    · have eP : wkP op = 10 := if_pos (by omega)
      rw [eP, ← add_z]
      refine r_aload_n (i := 0) hk (dk_at D_Mod_sum 38 rfl) rfl rfl ?_
      refine r_lload_n (i := 2) hk (dk_at D_Mod_sum 39 rfl) rfl rfl ?_
      refine r_lconst (z := 0) hk (dk_at D_Mod_sum 40 rfl) rfl ?_
      refine r_iload (i := 6) hk (dk_at D_Mod_sum 41 rfl) rfl ?_
      refine r_callVqv hk hR m_Mod_add s_Mod_add ml_Mod_126 (dk_at D_Mod_sum 42 rfl) (c_Mod_add G (x := v) (y := 0) (s := wkS op sg) h hA0 hv (by decide)) (fun w h => ?_) (i := (50, 0)) (hw := hob)
      refine r_goto (t := 93) hk (dk_at D_Mod_sum 43 rfl) (by decide) ?_
      exact r_vret hk (dk_at D_Mod_sum 49 rfl) ⟨rfl, rfl, h⟩
  have m21 : ∀ w : Wt, TX w0 ad w cd ((((wkA0 k A) / 10 ^ 10 : Nat) : Int)) ((((wkA0 k A) % 10 ^ 10 : Nat) : Int)) dv (wkM0 k mn) dm ov nx fl t qn on m fu c g q o ln r p hd at_ wr → V G K 7 (QE G K (fun rv ad' w' => rv = none ∧ ad' = ad ∧ TX w0 ad w' cd ((((adA (wkA0 k A) (v * 10 ^ wkP op) (wkS op sg == wkM0 k mn)) / 10 ^ 10 : Nat) : Int)) ((((adA (wkA0 k A) (v * 10 ^ wkP op) (wkS op sg == wkM0 k mn)) % 10 ^ 10 : Nat) : Int)) dv (adM (wkA0 k A) (v * 10 ^ wkP op) (wkM0 k mn) (wkS op sg == wkM0 k mn)) dm (adO (wkA0 k A) (v * 10 ^ wkP op) ov (wkS op sg == wkM0 k mn)) nx fl t qn on m fu c g q o ln r p hd at_ wr) noT 0 0) 0 0 21 [some (.ref (ad (50, 0))), some (.int (i32 op)), some (.long (i64 v)), none, some (.int (i32 (b2i sg))), none, none] [] ad w := by
    intro w h
    have eS : ∀ b : Bool, b = (decide (op ≠ 67) && (sg ^^ sb op)) → b = wkS op sg := fun b hb => hb
    refine r_iload_n (i := 1) hk (dk_at D_Mod_sum 12 rfl) rfl rfl ?_
    refine r_bipush hk (dk_at D_Mod_sum 13 rfl) (by decide) ?_
    refine r_irem hk (dk_at D_Mod_sum 14 rfl) (by omega) (by omega) ?_
    refine r_topi (x' := ((op % 10 : Nat) : Int)) (by omega) ?_
    refine r_istore (i := 5) (ls' := [_, _, _, _, _, _, _]) hk (dk_at D_Mod_sum 15 rfl) rfl rfl rfl ?_
    refine r_iload (i := 5) hk (dk_at D_Mod_sum 16 rfl) rfl ?_
    refine r_bipush hk (dk_at D_Mod_sum 17 rfl) (by decide) ?_
    refine r_icmp_ne (t := 38) hk (dk_at D_Mod_sum 18 rfl) (by decide) (by omega) (by omega) (fun c_31 => ?_) (fun c_31 => ?_)
    · refine r_iload (i := 5) hk (dk_at D_Mod_sum 21 rfl) rfl ?_
      refine r_iconst hk (dk_at D_Mod_sum 22 rfl) ?_
      refine r_icmp_eq (t := 51) hk (dk_at D_Mod_sum 23 rfl) (by decide) (by omega) (by omega) (fun c_41 => ?_) (fun c_41 => ?_)
      · have e1 : sb op = true := by rw [f3]; exact decide_eq_true (by omega)
        refine r_iload (i := 4) hk (dk_at D_Mod_sum 27 rfl) rfl ?_
        refine r_if_neB (t := 60) hk (dk_at D_Mod_sum 28 rfl) (by decide) (fun c_53 => ?_) (fun c_53 => ?_)
        · refine r_iconst hk (dk_at D_Mod_sum 31 rfl) ?_
          refine r_goto (t := 66) hk (dk_at D_Mod_sum 32 rfl) (by decide) ?_
          exact m66 w false (eS _ (by rw [e1, c_53]; exact (Bool.and_false _).symm)) h
        · refine r_iconst hk (dk_at D_Mod_sum 29 rfl) ?_
          refine r_goto (t := 66) hk (dk_at D_Mod_sum 30 rfl) (by decide) ?_
          exact m66 w true (eS _ (by rw [decide_eq_true (by omega), e1, c_53]; rfl)) h
      · refine r_iload (i := 5) hk (dk_at D_Mod_sum 24 rfl) rfl ?_
        refine r_bipush hk (dk_at D_Mod_sum 25 rfl) (by decide) ?_
        refine r_icmp_ne (t := 64) hk (dk_at D_Mod_sum 26 rfl) (by decide) (by omega) (by omega) (fun c_48 => ?_) (fun c_48 => ?_)
        · have e1 : sb op = false := by rw [f3]; exact decide_eq_false (by omega)
          refine r_iload (i := 4) hk (dk_at D_Mod_sum 33 rfl) rfl ?_
          exact m66 w sg (eS _ (by rw [decide_eq_true (by omega), e1]; cases sg <;> rfl)) h
        · have e1 : sb op = true := by rw [f3]; exact decide_eq_true (by omega)
          refine r_iload (i := 4) hk (dk_at D_Mod_sum 27 rfl) rfl ?_
          refine r_if_neB (t := 60) hk (dk_at D_Mod_sum 28 rfl) (by decide) (fun c_53 => ?_) (fun c_53 => ?_)
          · refine r_iconst hk (dk_at D_Mod_sum 31 rfl) ?_
            refine r_goto (t := 66) hk (dk_at D_Mod_sum 32 rfl) (by decide) ?_
            exact m66 w false (eS _ (by rw [e1, c_53]; exact (Bool.and_false _).symm)) h
          · refine r_iconst hk (dk_at D_Mod_sum 29 rfl) ?_
            refine r_goto (t := 66) hk (dk_at D_Mod_sum 30 rfl) (by decide) ?_
            exact m66 w true (eS _ (by rw [decide_eq_true (by omega), e1, c_53]; rfl)) h
    · refine r_iconst hk (dk_at D_Mod_sum 19 rfl) ?_
      refine r_goto (t := 66) hk (dk_at D_Mod_sum 20 rfl) (by decide) ?_
      exact m66 w false (eS _ (by rw [decide_eq_false (by omega)]; rfl)) h
  refine r_iload_n (i := 1) hk (dk_at D_Mod_sum 0 rfl) rfl rfl ?_
  refine r_bipush hk (dk_at D_Mod_sum 1 rfl) (by decide) ?_
  refine r_icmp_lt (t := 21) hk (dk_at D_Mod_sum 2 rfl) (by decide) (by omega) (by omega) (fun c_3 => ?_) (fun c_3 => ?_)
  · have n3 : k ≠ 3 := by omega
    exact m21 w (by rw [show wkA0 k A = A from if_neg n3, show wkM0 k mn = mn from if_neg n3]; exact h)
  · have e3 : k = 3 := by omega
    refine r_in h.ob_ ?_
    refine r_aload_n (i := 0) hk (dk_at D_Mod_sum 3 rfl) rfl rfl ?_
    refine r_lconst (z := 0) hk (dk_at D_Mod_sum 4 rfl) rfl ?_
    refine r_put (fs' := [_, _, _, _, _, _, _, _, _, _, _, _, _, _, _, _, _, _, _, _, _, _, _, _, _, _, _, _]) hk fl_Mod_118 ft_Mod_3 (dk_at D_Mod_sum 5 rfl) ?_ (hw := up_s)
    refine r_we up_up ?_
    refine r_aload_n (i := 0) hk (dk_at D_Mod_sum 6 rfl) rfl rfl ?_
    refine r_lconst (z := 0) hk (dk_at D_Mod_sum 7 rfl) rfl ?_
    refine r_put (fs' := [_, _, _, _, _, _, _, _, _, _, _, _, _, _, _, _, _, _, _, _, _, _, _, _, _, _, _, _]) hk fl_Mod_115 ft_Mod_4 (dk_at D_Mod_sum 8 rfl) ?_ (hw := up_s)
    refine r_we up_up ?_
    refine r_aload_n (i := 0) hk (dk_at D_Mod_sum 9 rfl) rfl rfl ?_
    refine r_iconst hk (dk_at D_Mod_sum 10 rfl) ?_
    refine r_put (fs' := [_, _, _, _, _, _, _, _, _, _, _, _, _, _, _, _, _, _, _, _, _, _, _, _, _, _, _, _]) hk fl_Mod_111 ft_Mod_6 (dk_at D_Mod_sum 11 rfl) ?_ (hn := rfl) (hfit := rfl) (hw := up_s)
    refine r_we up_up ?_
    exact m21 _ (by rw [show wkA0 k A = 0 from if_pos e3, show wkM0 k mn = false from if_pos e3, hi0]; exact h.sc (U' := 0) (L' := 0) (mn' := false))
theorem dv_nx {N v d : Nat} (hv : 0 < v) : (10 * N + d) / v = 10 * (N / v) + (10 * (N % v) + d) / v ∧ (10 * N + d) % v = (10 * (N % v) + d) % v := by
  have e : 10 * N + d = (10 * (N % v) + d) + v * (10 * (N / v)) := by
    have := Nat.div_add_mod N v
    have e2 : v * (10 * (N / v)) = 10 * (v * (N / v)) := by rw [Nat.mul_left_comm]
    rw [e2]
    omega
  constructor
  · rw [e, Nat.add_mul_div_left _ _ hv, Nat.add_comm]
  · rw [e, Nat.add_mul_mod_self_left]
theorem div_hl {r q : Nat} (hq : q < 10 ^ 10) : (r * 10 ^ 10 + q) / 10 ^ 10 = r ∧ (r * 10 ^ 10 + q) % 10 ^ 10 = q := by omega
theorem dv_q {A v n : Nat} (hv0 : 0 < v) (hU : A / 10 ^ 10 < v) (hn : n ≤ 10) : A / 10 ^ (10 - n) / v < 10 ^ 10 := by
  have h1 : A < v * 10 ^ 10 := by
    have := (Nat.div_lt_iff_lt_mul (show 0 < 10 ^ 10 by decide)).mp hU
    exact this
  have h2 : A / 10 ^ (10 - n) ≤ A := Nat.div_le_self _ _
  rw [Nat.div_lt_iff_lt_mul hv0, Nat.mul_comm]
  exact Nat.lt_of_le_of_lt h2 h1
theorem c_Mod_divide (G : Gt) {w0 w : Wt} {ad : Ix → Nat} {cd : Int} {dv : Int} {mn : Bool} {dm : Bool} {ov : Bool} {nx : Int} {fl : Int} {t : Nat} {qn : Nat} {on : Nat} {m : Nat} {fu : Bool} {c : Nat → Nat → Nat} {g : Nat → Bool} {q : Nat → Nat × Bool} {o : Nat → Nat × Bool} {ln : Nat → Ln} {r : Nat → Bool} {p : Nat → Int} {hd : Nat → Bool} {at_ : Nat → Int} {wr : Nat → Int} {A : Nat} {v : Nat} {sg : Bool} (h : TX w0 ad w cd (((A / 10 ^ 10 : Nat) : Int)) (((A % 10 ^ 10 : Nat) : Int)) dv mn dm ov nx fl t qn on m fu c g q o ln r p hd at_ wr) (hA : A < 10 ^ 20) (hv : v < 10 ^ 10) (hU : A / 10 ^ 10 < v) : Mt G y_Mod_divide w_Mod_divide 0 0 0 [.ref (ad (50, 0)), .long (i64 v), .int (i32 (b2i sg))] ad w (fun rv ad' w' => rv = none ∧ ad' = ad ∧ TX w0 ad w' cd ((((A % v * 10 ^ 10 + A / v) / 10 ^ 10 : Nat) : Int)) ((((A % v * 10 ^ 10 + A / v) % 10 ^ 10 : Nat) : Int)) dv (mn ^^ sg) dm ov nx fl t qn on m fu c g q o ln r p hd at_ wr) noT := by
  have hv0 : 0 < v := by omega
  refine Mt.to [some (.ref (ad (50, 0))), some (.long (i64 v)), none, some (.int (i32 (b2i sg))), none, none, none, none, none, none, none] (fun K hk hR hin => ?_)
  have hob := h.ob_
  have loop : ∀ n : Nat, n ≤ 10 → ∀ (z x y u : Int), z = (n : Int) → x = ((A / 10 ^ (10 - n) % v : Nat) : Int) → y = ((A / 10 ^ (10 - n) / v : Nat) : Int) → u = ((10 ^ (10 - n) / 10 : Nat) : Int) → V G K 11 (QE G K (fun rv ad' w' => rv = none ∧ ad' = ad ∧ TX w0 ad w' cd ((((A % v * 10 ^ 10 + A / v) / 10 ^ 10 : Nat) : Int)) ((((A % v * 10 ^ 10 + A / v) % 10 ^ 10 : Nat) : Int)) dv (mn ^^ sg) dm ov nx fl t qn on m fu c g q o ln r p hd at_ wr) noT 0 0) 0 0 17 [some (.ref (ad (50, 0))), some (.long (i64 v)), none, some (.int (i32 (b2i sg))), some (.long (i64 x)), none, some (.long (i64 y)), none, some (.long (i64 u)), none, some (.int (i32 z))] [] ad w := by
    refine nup 10 (fun n hn ih z x y u hz hx hy hu => ?_)
    subst hz
    have hxl : A / 10 ^ (10 - n) % v < v := Nat.mod_lt _ hv0
    have hyl := dv_q hv0 hU hn
    generalize hR9 : A / 10 ^ (10 - n) % v = r9 at hx hxl
    generalize hQ9 : A / 10 ^ (10 - n) / v = q9 at hy hyl
    subst hx hy
    refine r_iload (i := 10) hk (dk_at D_Mod_divide 9 rfl) rfl ?_
    refine r_bipush hk (dk_at D_Mod_divide 10 rfl) (by decide) ?_
    refine r_icmp_ge (t := 77) hk (dk_at D_Mod_divide 11 rfl) (by decide) (by omega) (by omega) (fun c_21 => ?_) (fun c_21 => ?_)
    · obtain rfl : n = 10 := by omega
      rw [show 10 - 10 = 0 from rfl, Nat.pow_zero, Nat.div_one] at hR9 hQ9
      obtain ⟨d1, d2⟩ := div_hl (r := r9) hyl
      rw [hR9, hQ9, d1, d2]
      refine r_in hob ?_
      refine r_aload_n (i := 0) hk (dk_at D_Mod_divide 41 rfl) rfl rfl ?_
      refine r_lload (i := 4) hk (dk_at D_Mod_divide 42 rfl) rfl ?_
      refine r_put (fs' := [_, _, _, _, _, _, _, _, _, _, _, _, _, _, _, _, _, _, _, _, _, _, _, _, _, _, _, _]) hk fl_Mod_118 ft_Mod_3 (dk_at D_Mod_divide 43 rfl) ?_ (hw := up_s)
      refine r_we up_up ?_
      refine r_aload_n (i := 0) hk (dk_at D_Mod_divide 44 rfl) rfl rfl ?_
      refine r_lload (i := 6) hk (dk_at D_Mod_divide 45 rfl) rfl ?_
      refine r_put (fs' := [_, _, _, _, _, _, _, _, _, _, _, _, _, _, _, _, _, _, _, _, _, _, _, _, _, _, _, _]) hk fl_Mod_115 ft_Mod_4 (dk_at D_Mod_divide 46 rfl) ?_ (hw := up_s)
      refine r_we up_up ?_
      refine r_aload_n (i := 0) hk (dk_at D_Mod_divide 47 rfl) rfl rfl ?_
      refine r_aload_n (i := 0) hk (dk_at D_Mod_divide 48 rfl) rfl rfl ?_
      refine r_get hk fl_Mod_111 (dk_at D_Mod_divide 49 rfl) ?_ (hw := up_s)
      refine r_iload_n (i := 3) hk (dk_at D_Mod_divide 50 rfl) rfl rfl ?_
      refine r_icmp_eqB (t := 102) hk (dk_at D_Mod_divide 51 rfl) (by decide) (fun c_95 => ?_) (fun c_95 => ?_)
      · rw [xor_f c_95]
        refine r_iconst hk (dk_at D_Mod_divide 54 rfl) ?_
        refine r_put (fs' := [_, _, _, _, _, _, _, _, _, _, _, _, _, _, _, _, _, _, _, _, _, _, _, _, _, _, _, _]) hk fl_Mod_111 ft_Mod_6 (dk_at D_Mod_divide 55 rfl) ?_ (hn := rfl) (hfit := rfl) (hw := up_s)
        refine r_we up_up ?_
        first | exact r_vret hk (dk_at D_Mod_divide 56 rfl) ⟨rfl, rfl, h.sc (mn' := true)⟩ | exact r_vret hk (dk_at D_Mod_divide 56 rfl) ⟨rfl, rfl, h.sc (mn' := false)⟩
      · rw [xor_t c_95]
        refine r_iconst hk (dk_at D_Mod_divide 52 rfl) ?_
        refine r_goto (t := 103) hk (dk_at D_Mod_divide 53 rfl) (by decide) ?_
        refine r_put (fs' := [_, _, _, _, _, _, _, _, _, _, _, _, _, _, _, _, _, _, _, _, _, _, _, _, _, _, _, _]) hk fl_Mod_111 ft_Mod_6 (dk_at D_Mod_divide 55 rfl) ?_ (hn := rfl) (hfit := rfl) (hw := up_s)
        refine r_we up_up ?_
        first | exact r_vret hk (dk_at D_Mod_divide 56 rfl) ⟨rfl, rfl, h.sc (mn' := true)⟩ | exact r_vret hk (dk_at D_Mod_divide 56 rfl) ⟨rfl, rfl, h.sc (mn' := false)⟩
    · have e10 : (10 : Nat) ^ (10 - n) = 10 * 10 ^ (10 - (n + 1)) := by rw [show 10 - n = 10 - (n + 1) + 1 by omega, Nat.pow_succ, Nat.mul_comm]
      have eu : (10 : Nat) ^ (10 - n) / 10 = 10 ^ (10 - (n + 1)) := by rw [e10]; exact Nat.mul_div_cancel_left _ (by decide)
      rw [eu] at hu
      have hPp : 0 < 10 ^ (10 - (n + 1)) := Nat.pow_pos (by decide)
      have hPl : 10 ^ (10 - (n + 1)) ≤ 10 ^ 10 := p_le (by omega)
      have hstep := dgt_step A (10 - (n + 1))
      rw [show 10 - (n + 1) + 1 = 10 - n by omega] at hstep
      have hdl := dgt_lt A (10 - (n + 1))
      have hdd : A % 10 ^ 10 / 10 ^ (10 - (n + 1)) % 10 = dgt A (10 - (n + 1)) := dgt_modp A 10 (10 - (n + 1)) (by omega)
      obtain ⟨s1, s2⟩ := dv_nx (N := A / 10 ^ (10 - n)) (d := dgt A (10 - (n + 1))) hv0
      rw [← hstep, hQ9, hR9] at s1
      rw [← hstep, hR9] at s2
      generalize hPP : (10 : Nat) ^ (10 - (n + 1)) = P at *
      generalize dgt A (10 - (n + 1)) = D at *
      subst hu
      refine r_ldc2 hk kl_Mod_67 (dk_at D_Mod_divide 12 rfl) ?_
      refine r_lload (i := 4) hk (dk_at D_Mod_divide 13 rfl) rfl ?_
      refine r_lmul hk (dk_at D_Mod_divide 14 rfl) ?_
      refine r_aload_n (i := 0) hk (dk_at D_Mod_divide 15 rfl) rfl rfl ?_
      refine r_get hk fl_Mod_115 (dk_at D_Mod_divide 16 rfl) ?_ (hw := hob)
      refine r_lload (i := 8) hk (dk_at D_Mod_divide 17 rfl) rfl ?_
      refine r_ldiv hk (dk_at D_Mod_divide 18 rfl) (by omega) (by omega) ?_
      refine r_topl (x' := ((A % 10 ^ 10 / P : Nat) : Int)) (Int.natCast_ediv _ _).symm ?_
      have hE0 : A % 10 ^ 10 / P ≤ A % 10 ^ 10 := Nat.div_le_self _ _
      generalize A % 10 ^ 10 / P = E at hE0 hdd ⊢
      refine r_ldc2 hk kl_Mod_67 (dk_at D_Mod_divide 19 rfl) ?_
      refine r_lrem hk (dk_at D_Mod_divide 20 rfl) (by omega) (by omega) ?_
      refine r_topl (x' := ((D : Nat) : Int)) (by omega) ?_
      refine r_ladd hk (dk_at D_Mod_divide 21 rfl) ?_
      refine r_topl (x' := ((10 * r9 + D : Nat) : Int)) (by omega) ?_
      refine r_lstore (i := 4) (ls' := [_, _, _, _, _, _, _, _, _, _, _]) hk (dk_at D_Mod_divide 22 rfl) rfl rfl rfl ?_
      refine r_ldc2 hk kl_Mod_67 (dk_at D_Mod_divide 23 rfl) ?_
      refine r_lload (i := 6) hk (dk_at D_Mod_divide 24 rfl) rfl ?_
      refine r_lmul hk (dk_at D_Mod_divide 25 rfl) ?_
      refine r_lload (i := 4) hk (dk_at D_Mod_divide 26 rfl) rfl ?_
      refine r_lload_n (i := 1) hk (dk_at D_Mod_divide 27 rfl) rfl rfl ?_
      refine r_ldiv hk (dk_at D_Mod_divide 28 rfl) (by omega) (by omega) ?_
      refine r_topl (x' := (((10 * r9 + D) / v : Nat) : Int)) (Int.natCast_ediv _ _).symm ?_
      refine r_ladd hk (dk_at D_Mod_divide 29 rfl) ?_
      refine r_lstore (i := 6) (ls' := [_, _, _, _, _, _, _, _, _, _, _]) hk (dk_at D_Mod_divide 30 rfl) rfl rfl rfl ?_
      refine r_lload (i := 4) hk (dk_at D_Mod_divide 31 rfl) rfl ?_
      refine r_lload_n (i := 1) hk (dk_at D_Mod_divide 32 rfl) rfl rfl ?_
      refine r_lrem hk (dk_at D_Mod_divide 33 rfl) (by omega) (by omega) ?_
      refine r_topl (x' := (((10 * r9 + D) % v : Nat) : Int)) (Int.natCast_emod _ _).symm ?_
      refine r_lstore (i := 4) (ls' := [_, _, _, _, _, _, _, _, _, _, _]) hk (dk_at D_Mod_divide 34 rfl) rfl rfl rfl ?_
      refine r_lload (i := 8) hk (dk_at D_Mod_divide 35 rfl) rfl ?_
      refine r_ldc2 hk kl_Mod_67 (dk_at D_Mod_divide 36 rfl) ?_
      refine r_ldiv hk (dk_at D_Mod_divide 37 rfl) (by omega) (by omega) ?_
      refine r_lstore (i := 8) (ls' := [_, _, _, _, _, _, _, _, _, _, _]) hk (dk_at D_Mod_divide 38 rfl) rfl rfl rfl ?_
      refine r_iinc (i := 10) (ls' := [_, _, _, _, _, _, _, _, _, _, _]) hk (dk_at D_Mod_divide 39 rfl) rfl rfl rfl rfl ?_
      refine r_goto (t := 17) hk (dk_at D_Mod_divide 40 rfl) (by decide) ?_
      exact ih (by omega) _ _ _ _ (by omega) (by rw [s2]) (by rw [s1]; omega) (by omega)
  refine r_aload_n (i := 0) hk (dk_at D_Mod_divide 0 rfl) rfl rfl ?_
  refine r_get hk fl_Mod_118 (dk_at D_Mod_divide 1 rfl) ?_ (hw := hob)
  refine r_lstore (i := 4) (ls' := [_, _, _, _, _, _, _, _, _, _, _]) hk (dk_at D_Mod_divide 2 rfl) rfl rfl rfl ?_
  refine r_lconst (z := 0) hk (dk_at D_Mod_divide 3 rfl) rfl ?_
  refine r_lstore (i := 6) (ls' := [_, _, _, _, _, _, _, _, _, _, _]) hk (dk_at D_Mod_divide 4 rfl) rfl rfl rfl ?_
  refine r_ldc2 hk kl_Mod_124 (dk_at D_Mod_divide 5 rfl) ?_
  refine r_lstore (i := 8) (ls' := [_, _, _, _, _, _, _, _, _, _, _]) hk (dk_at D_Mod_divide 6 rfl) rfl rfl rfl ?_
  refine r_iconst hk (dk_at D_Mod_divide 7 rfl) ?_
  refine r_istore (i := 10) (ls' := [_, _, _, _, _, _, _, _, _, _, _]) hk (dk_at D_Mod_divide 8 rfl) rfl rfl rfl ?_
  exact loop 0 (Nat.zero_le _) _ _ _ _ rfl (by rw [Nat.sub_zero, Nat.mod_eq_of_lt hU]) (by rw [Nat.sub_zero, Nat.div_eq_of_lt hU]; rfl) (by decide)
