/-! DrumMachine.Accumulator: divide -/
def dvN (A r : Nat) : Nat := A / 10 ^ (10 - r)
def dvA (A v r : Nat) : Nat := dvN A r % v * 10 ^ 10 + A % 10 ^ (10 - r) * 10 ^ r + dvN A r / v
theorem dv_step {A v r : Nat} (hr : r < 10) (hv0 : 0 < v) (hQ : dvN A r / v < 10 ^ r) : ∃ Y Z, dvA A v r * 10 = Y * 10 ^ 10 + Z ∧ Z < 10 ^ 10 ∧ Z % 10 = 0 ∧ Y < 10 * v ∧ dvN A (r + 1) / v = 10 * (dvN A r / v) + Y / v ∧ dvA A v (r + 1) = Y % v * 10 ^ 10 + Z + Y / v := by
  have hN : dvN A (r + 1) = 10 * dvN A r + dgt A (9 - r) := by
    have h := dgt_step A (9 - r)
    rw [show 9 - r + 1 = 10 - r by omega] at h
    unfold dvN
    rw [show 10 - (r + 1) = 9 - r by omega]
    exact h
  have hm : A % 10 ^ (10 - r) = A % 10 ^ (9 - r) + 10 ^ (9 - r) * dgt A (9 - r) := by
    rw [show 10 - r = 9 - r + 1 by omega]
    exact Nat.mod_pow_succ
  have hp : 10 ^ (9 - r) * 10 ^ r * 10 = 10 ^ 10 := by
    rw [← Nat.pow_add, ← Nat.pow_succ]
    congr 1
    omega
  have hd := dgt_lt A (9 - r)
  have hR : dvN A r % v < v := Nat.mod_lt _ hv0
  have hdm := Nat.div_add_mod (dvN A r) v
  have ha : A % 10 ^ (9 - r) < 10 ^ (9 - r) := Nat.mod_lt _ (Nat.pow_pos (by decide))
  have hw : 0 < 10 ^ r := Nat.pow_pos (by decide)
  refine ⟨10 * (dvN A r % v) + dgt A (9 - r), A % 10 ^ (9 - r) * (10 ^ r * 10) + 10 * (dvN A r / v), ?_, ?_, ?_, by omega, ?_, ?_⟩
  · unfold dvA
    rw [hm]
    generalize dvN A r % v = x
    generalize dvN A r / v = y
    generalize A % 10 ^ (9 - r) = a
    generalize dgt A (9 - r) = d at *
    have e : (a + 10 ^ (9 - r) * d) * 10 ^ r * 10 = a * (10 ^ r * 10) + d * 10 ^ 10 := by
      rw [← hp, Nat.add_mul, Nat.add_mul, Nat.mul_assoc a]
      congr 1
      simp only [Nat.mul_assoc, Nat.mul_comm, Nat.mul_left_comm]
    rw [Nat.add_mul, Nat.add_mul, e, Nat.add_mul]
    omega
  · have h1 : (A % 10 ^ (9 - r) + 1) * (10 ^ r * 10) ≤ 10 ^ (9 - r) * (10 ^ r * 10) := Nat.mul_le_mul_right _ ha
    rw [← Nat.mul_assoc (10 ^ (9 - r)), hp, Nat.add_mul, Nat.one_mul] at h1
    omega
  · rw [← Nat.mul_assoc]
    omega
  · rw [hN]
    have e : 10 * dvN A r + dgt A (9 - r) = v * (10 * (dvN A r / v)) + (10 * (dvN A r % v) + dgt A (9 - r)) := by
      rw [Nat.mul_left_comm v 10]
      omega
    rw [e, Nat.mul_add_div hv0]
  · unfold dvA
    have e : 10 * dvN A r + dgt A (9 - r) = v * (10 * (dvN A r / v)) + (10 * (dvN A r % v) + dgt A (9 - r)) := by
      rw [Nat.mul_left_comm v 10]
      omega
    have e3 : 10 ^ (r + 1) = 10 ^ r * 10 := Nat.pow_succ ..
    rw [show 10 - (r + 1) = 9 - r by omega, hN, e, Nat.mul_add_div hv0, Nat.mul_add_mod, e3]
    omega
theorem ds_cons (Q q : Nat) (hq : q < 10) : ∀ n, ds (10 * Q + q) (n + 1) = ds Q n + q := by
  intro n
  induction n with
  | zero => simp only [ds]; unfold dgt; rw [Nat.pow_zero, Nat.div_one]; omega
  | succ n ih =>
    have e : dgt (10 * Q + q) (n + 1) = dgt Q n := by
      unfold dgt
      rw [Nat.pow_succ, Nat.mul_comm (10 ^ n), ← Nat.div_div_eq_div_mul, show (10 * Q + q) / 10 = Q by omega]
    rw [ds, ih, e, ds]
    omega
theorem dgt_add {C q : Nat} (h0 : C % 10 = 0) (hq : q < 10) : ∀ k, updV (dg C) 0 (.int (i32 q)) k = dg (C + q) k := by
  intro k
  by_cases e : k = 0
  · subst e
    rw [updV_s]
    exact dg_eq (by unfold dgt; rw [Nat.pow_zero, Nat.div_one]; omega)
  · rw [updV_n e]
    obtain ⟨m, rfl⟩ : ∃ m, k = m + 1 := ⟨k - 1, by omega⟩
    exact dg_eq (by unfold dgt; rw [Nat.pow_succ, Nat.mul_comm (10 ^ m), ← Nat.div_div_eq_div_mul, ← Nat.div_div_eq_div_mul, show (C + q) / 10 = C / 10 by omega])
theorem c_Acc_divide (G : Gt) {ad : Ix → Nat} {w : Wt} {A : Nat} {mn ov : Bool} {v : Nat} {sg : Bool} (hA : w (4, 0) = some (ac ad mn ov)) (h5 : w (5, 0) = some (aa A)) (h14 : w (14, 0) = some (wo ad (15, 0) sg)) (h15 : w (15, 0) = some (da v)) (hv : v < 10 ^ 10) (hlt : A < 10 ^ 20) (hU : A / 10 ^ 10 < v) : Mt G y_Acc_divide w_Acc_divide 1 0 0 [.ref (ad (4, 0)), .ref (ad (14, 0))] ad w (ex (some (.int (i32 ((20 + 2 * ds (A / v) 10 : Nat) : Int)))) ad (up (up w (5, 0) (some (aa (A % v * 10 ^ 10 + A / v)))) (4, 0) (some (ac ad (mn ^^ sg) ov)))) noT := by
  have hv0 : 0 < v := by omega
  refine Mt.to [some (.ref (ad (4, 0))), some (.ref (ad (14, 0))), none, none, none, none] (fun K hk hR hin => ?_)
  have loop : ∀ n : Nat, n ≤ 10 → ∀ (t k : Int), t = ((20 + 2 * ds (dvN A n / v) n : Nat) : Int) → k = (n : Int) → dvN A n / v < 10 ^ n → V G K 6 (QE G K (ex (some (.int (i32 ((20 + 2 * ds (A / v) 10 : Nat) : Int)))) ad (up (up w (5, 0) (some (aa (A % v * 10 ^ 10 + A / v)))) (4, 0) (some (ac ad (mn ^^ sg) ov)))) noT 0 0) 0 0 5 [some (.ref (ad (4, 0))), some (.ref (ad (14, 0))), some (.int (i32 t)), some (.int (i32 k)), none, none] [] ad (up w (5, 0) (some (aa (dvA A v n)))) := by
    refine nup 10 (fun n hn ih t k ht hkk hQ => ?_)
    have hsl := ds_le (dvN A n / v) n
    refine r_iload_n (i := 3) hk (dk_at D_Acc_divide 4 rfl) rfl rfl ?_
    refine r_bipush hk (dk_at D_Acc_divide 5 rfl) (by decide) ?_
    refine r_icmp_ge (t := 87) hk (dk_at D_Acc_divide 6 rfl) (by decide) (by omega) (by omega) (fun c_8 => ?_) (fun c_8 => ?_)
    · obtain rfl : n = 10 := by omega
      have eN : dvN A 10 = A := by unfold dvN; rw [Nat.sub_self, Nat.pow_zero, Nat.div_one]
      have eA : dvA A v 10 = A % v * 10 ^ 10 + A / v := by unfold dvA; rw [eN, Nat.sub_self, Nat.pow_zero, Nat.mod_one, Nat.zero_mul, Nat.add_zero]
      rw [eN] at ht
      rw [eA]
      subst ht
      refine r_aload_n (i := 0) hk (dk_at D_Acc_divide 50 rfl) rfl rfl ?_
      refine r_aload_n (i := 0) hk (dk_at D_Acc_divide 51 rfl) rfl rfl ?_
      refine r_get hk fl_Acc_28 (dk_at D_Acc_divide 52 rfl) ?_ (hw := (up_n h45).trans hA)
      refine r_aload_n (i := 1) hk (dk_at D_Acc_divide 53 rfl) rfl rfl ?_
      refine r_getN hk fl_Acc_33 (dk_at D_Acc_divide 54 rfl) ?_
      refine r_icmp_eqB (t := 103) hk (dk_at D_Acc_divide 55 rfl) (by decide) (fun c_96 => ?_) (fun c_96 => ?_)
      · rw [xor_f c_96]
        refine r_iconst hk (dk_at D_Acc_divide 58 rfl) ?_
        first
          | refine r_put (fs' := [_, .int (i32 (b2i true)), _, _, _]) hk fl_Acc_28 ft_Acc_1 (dk_at D_Acc_divide 59 rfl) ?_ (hw := (up_n h45).trans hA)
          | refine r_put (fs' := [_, .int (i32 (b2i false)), _, _, _]) hk fl_Acc_28 ft_Acc_1 (dk_at D_Acc_divide 59 rfl) ?_ (hw := (up_n h45).trans hA)
        refine r_iload_n (i := 2) hk (dk_at D_Acc_divide 60 rfl) rfl rfl ?_
        exact r_iret hk (dk_at D_Acc_divide 61 rfl) ex.rf
      · rw [xor_t c_96]
        refine r_iconst hk (dk_at D_Acc_divide 56 rfl) ?_
        refine r_goto (t := 104) hk (dk_at D_Acc_divide 57 rfl) (by decide) ?_
        first
          | refine r_put (fs' := [_, .int (i32 (b2i true)), _, _, _]) hk fl_Acc_28 ft_Acc_1 (dk_at D_Acc_divide 59 rfl) ?_ (hw := (up_n h45).trans hA)
          | refine r_put (fs' := [_, .int (i32 (b2i false)), _, _, _]) hk fl_Acc_28 ft_Acc_1 (dk_at D_Acc_divide 59 rfl) ?_ (hw := (up_n h45).trans hA)
        refine r_iload_n (i := 2) hk (dk_at D_Acc_divide 60 rfl) rfl rfl ?_
        exact r_iret hk (dk_at D_Acc_divide 61 rfl) ex.rf
    · obtain ⟨Y, Z, s1, s2, s3, s4, s5, s6⟩ := dv_step (A := A) (v := v) (r := n) (by omega) hv0 hQ
      generalize hB : dvA A v n = B at *
      have hdB : dgt B 19 = B / 10 ^ 19 := by unfold dgt; omega
      refine r_aload_n (i := 0) hk (dk_at D_Acc_divide 7 rfl) rfl rfl ?_
      refine r_get hk fl_Acc_9 (dk_at D_Acc_divide 8 rfl) ?_ (hw := (up_n h45).trans hA)
      refine r_aload_n (i := 0) hk (dk_at D_Acc_divide 9 rfl) rfl rfl ?_
      refine r_get hk fl_Acc_9 (dk_at D_Acc_divide 10 rfl) ?_ (hw := (up_n h45).trans hA)
      refine r_alen hk (dk_at D_Acc_divide 11 rfl) ?_
      refine r_iconst hk (dk_at D_Acc_divide 12 rfl) ?_
      refine r_isub hk (dk_at D_Acc_divide 13 rfl) ?_
      refine r_iaload (ix := 19) hk (dk_at D_Acc_divide 14 rfl) ?_ (hw := up_s)
      refine r_istore (i := 4) (ls' := [_, _, _, _, _, _]) hk (dk_at D_Acc_divide 15 rfl) rfl rfl rfl ?_
      refine r_aload_n (i := 0) hk (dk_at D_Acc_divide 16 rfl) rfl rfl ?_
      refine r_iconst hk (dk_at D_Acc_divide 17 rfl) ?_
      refine r_callVv hk hR m_Acc_shiftLeft s_Acc_shiftLeft ml_Acc_51 (dk_at D_Acc_divide 18 rfl) (c_Acc_shiftLeft G (b := 1) ((up_n h45).trans hA) up_s (by omega)) ?_
      rw [up_up]
      refine r_iconst hk (dk_at D_Acc_divide 19 rfl) ?_
      refine r_istore (i := 5) (ls' := [_, _, _, _, _, _]) hk (dk_at D_Acc_divide 20 rfl) rfl rfl rfl ?_
      have hqv := Nat.div_add_mod Y v
      have hqm : Y % v < v := Nat.mod_lt _ hv0
      have hq9 : Y / v ≤ 9 := by
        by_cases h : 10 ≤ Y / v
        · have : v * 10 ≤ v * (Y / v) := Nat.mul_le_mul_left _ h
          omega
        · omega
      have inner : ∀ c : Nat, c ≤ Y / v → ∀ (ab z : Int) (C : Nat), z = (c : Int) → 0 ≤ ab → ab ≤ 9 → C < 10 ^ 20 → ((Y * 10 ^ 10 + Z : Nat) : Int) = ab * 10 ^ 20 + C + ((v * c * 10 ^ 10 : Nat) : Int) → V G K 6 (QE G K (ex (some (.int (i32 ((20 + 2 * ds (A / v) 10 : Nat) : Int)))) ad (up (up w (5, 0) (some (aa (A % v * 10 ^ 10 + A / v)))) (4, 0) (some (ac ad (mn ^^ sg) ov)))) noT 0 0) 0 0 33 [some (.ref (ad (4, 0))), some (.ref (ad (14, 0))), some (.int (i32 t)), some (.int (i32 k)), some (.int (i32 ab)), some (.int (i32 z))] [] ad (up w (5, 0) (some (aa C))) := by
        refine nup (Y / v) (fun c hc ih2 ab z C hz ha0 ha9 hC hE => ?_)
        have hcv : v * c ≤ v * (Y / v) := Nat.mul_le_mul_left _ hc
        generalize hvc : v * c = vc at *
        refine r_iload (i := 4) hk (dk_at D_Acc_divide 21 rfl) rfl ?_
        refine r_if_gt (t := 48) hk (dk_at D_Acc_divide 22 rfl) (by decide) (by omega) (fun c_35 => ?_) (fun c_35 => ?_)
        · have hge : vc + v ≤ Y := by
            first
              | omega
              | (have := of_decide_eq_false c_45; omega)
          have hc1 : c + 1 ≤ Y / v := by
            by_cases h : c = Y / v
            · subst h; omega
            · omega
          have hvc1 : v * (c + 1) = vc + v := by rw [Nat.mul_add, Nat.mul_one, hvc]
          refine r_iload (i := 4) hk (dk_at D_Acc_divide 28 rfl) rfl ?_
          refine r_aload_n (i := 0) hk (dk_at D_Acc_divide 29 rfl) rfl rfl ?_
          refine r_aload_n (i := 1) hk (dk_at D_Acc_divide 30 rfl) rfl rfl ?_
          refine r_bipush hk (dk_at D_Acc_divide 31 rfl) (by decide) ?_
          refine r_callV hk hR m_Acc_less s_Acc_less ml_Acc_41 (dk_at D_Acc_divide 32 rfl) (c_Acc_less G (a := 10) (i := (14, 0)) (j := (15, 0)) ((up_n h45).trans hA) up_s h14 h15 hv hC (Or.inr rfl) (by intro e; cases e)) ?_ (hw := (up_n h45).trans hA)
          rw [up_up]
          refine r_isub hk (dk_at D_Acc_divide 33 rfl) ?_
          refine r_istore (i := 4) (ls' := [_, _, _, _, _, _]) hk (dk_at D_Acc_divide 34 rfl) rfl rfl rfl ?_
          refine r_iinc (i := 5) (ls' := [_, _, _, _, _, _]) hk (dk_at D_Acc_divide 35 rfl) rfl rfl rfl rfl ?_
          refine r_goto (t := 33) hk (dk_at D_Acc_divide 36 rfl) (by decide) ?_
          by_cases hb : C < v * 10 ^ 10
          · rw [decide_eq_true hb, b2i_t]
            exact ih2 (by omega) _ _ _ (by omega) (by omega) (by omega) (Nat.mod_lt _ (by decide)) (by rw [hvc1]; omega)
          · rw [decide_eq_false hb, b2i_f]
            exact ih2 (by omega) _ _ _ (by omega) (by omega) (by omega) (Nat.mod_lt _ (by decide)) (by rw [hvc1]; omega)
        · refine r_aload_n (i := 0) hk (dk_at D_Acc_divide 23 rfl) rfl rfl ?_
          refine r_aload_n (i := 1) hk (dk_at D_Acc_divide 24 rfl) rfl rfl ?_
          refine r_bipush hk (dk_at D_Acc_divide 25 rfl) (by decide) ?_
          refine r_callV hk hR m_Acc_isAbove s_Acc_isAbove ml_Acc_55 (dk_at D_Acc_divide 26 rfl) (c_Acc_isAbove G (i := (14, 0)) (j := (15, 0)) ((up_n h45).trans hA) up_s h14 h15 hv hC) ?_ (hw := (up_n h45).trans hA)
          refine r_if_neB (t := 66) hk (dk_at D_Acc_divide 27 rfl) (by decide) (fun c_45 => ?_) (fun c_45 => ?_)
          · have hlt2 := of_decide_eq_true c_45
            have hcq : c = Y / v := by
              by_cases h : c = Y / v
              · exact h
              · have : v * (c + 1) ≤ v * (Y / v) := Nat.mul_le_mul_left _ (by omega)
                rw [Nat.mul_add, Nat.mul_one, hvc] at this
                omega
            have hCe : C = Y % v * 10 ^ 10 + Z := by
              subst hcq
              omega
            have hCq : C + c = dvA A v (n + 1) := by rw [s6, hCe, hcq]
            refine r_aload_n (i := 0) hk (dk_at D_Acc_divide 37 rfl) rfl rfl ?_
            refine r_get hk fl_Acc_9 (dk_at D_Acc_divide 38 rfl) ?_ (hw := (up_n h45).trans hA)
            refine r_iconst hk (dk_at D_Acc_divide 39 rfl) ?_
            refine r_iload (i := 5) hk (dk_at D_Acc_divide 40 rfl) rfl ?_
            refine r_iastoreU (ix := 0) hk (dk_at D_Acc_divide 41 rfl) ?_
            subst hz
            refine r_arr (fun q _ => dgt_add (by omega) (by omega) q) ?_
            rw [hCq]
            refine r_iload_n (i := 2) hk (dk_at D_Acc_divide 42 rfl) rfl rfl ?_
            refine r_iconst hk (dk_at D_Acc_divide 43 rfl) ?_
            refine r_iload (i := 5) hk (dk_at D_Acc_divide 44 rfl) rfl ?_
            refine r_imul hk (dk_at D_Acc_divide 45 rfl) ?_
            refine r_iadd hk (dk_at D_Acc_divide 46 rfl) ?_
            refine r_istore_n (i := 2) (ls' := [_, _, _, _, _, _]) hk (dk_at D_Acc_divide 47 rfl) rfl rfl rfl rfl ?_
            refine r_iinc (i := 3) (ls' := [_, _, _, _, _, _]) hk (dk_at D_Acc_divide 48 rfl) rfl rfl rfl rfl ?_
            refine r_goto (t := 5) hk (dk_at D_Acc_divide 49 rfl) (by decide) ?_
            refine r_drop 4 (ls' := [_, _, _, _, _, _]) rfl ?_
            refine r_drop 5 (ls' := [_, _, _, _, _, _]) rfl ?_
            have hdsn : ds (dvN A (n + 1) / v) (n + 1) = ds (dvN A n / v) n + c := by rw [s5, ds_cons _ _ (by omega), hcq]
            exact ih (by omega) _ _ (by rw [hdsn]; omega) (by omega) (by rw [s5, Nat.pow_succ]; omega)
          · have hge : vc + v ≤ Y := by
              first
                | omega
                | (have := of_decide_eq_false c_45; omega)
            have hc1 : c + 1 ≤ Y / v := by
              by_cases h : c = Y / v
              · subst h; omega
              · omega
            have hvc1 : v * (c + 1) = vc + v := by rw [Nat.mul_add, Nat.mul_one, hvc]
            refine r_iload (i := 4) hk (dk_at D_Acc_divide 28 rfl) rfl ?_
            refine r_aload_n (i := 0) hk (dk_at D_Acc_divide 29 rfl) rfl rfl ?_
            refine r_aload_n (i := 1) hk (dk_at D_Acc_divide 30 rfl) rfl rfl ?_
            refine r_bipush hk (dk_at D_Acc_divide 31 rfl) (by decide) ?_
            refine r_callV hk hR m_Acc_less s_Acc_less ml_Acc_41 (dk_at D_Acc_divide 32 rfl) (c_Acc_less G (a := 10) (i := (14, 0)) (j := (15, 0)) ((up_n h45).trans hA) up_s h14 h15 hv hC (Or.inr rfl) (by intro e; cases e)) ?_ (hw := (up_n h45).trans hA)
            rw [up_up]
            refine r_isub hk (dk_at D_Acc_divide 33 rfl) ?_
            refine r_istore (i := 4) (ls' := [_, _, _, _, _, _]) hk (dk_at D_Acc_divide 34 rfl) rfl rfl rfl ?_
            refine r_iinc (i := 5) (ls' := [_, _, _, _, _, _]) hk (dk_at D_Acc_divide 35 rfl) rfl rfl rfl rfl ?_
            refine r_goto (t := 33) hk (dk_at D_Acc_divide 36 rfl) (by decide) ?_
            by_cases hb : C < v * 10 ^ 10
            · rw [decide_eq_true hb, b2i_t]
              exact ih2 (by omega) _ _ _ (by omega) (by omega) (by omega) (Nat.mod_lt _ (by decide)) (by rw [hvc1]; omega)
            · rw [decide_eq_false hb, b2i_f]
              exact ih2 (by omega) _ _ _ (by omega) (by omega) (by omega) (Nat.mod_lt _ (by decide)) (by rw [hvc1]; omega)
      exact inner 0 (Nat.zero_le _) _ _ _ rfl (by omega) (by omega) (Nat.mod_lt _ (by decide)) (by rw [Nat.mul_zero, Nat.zero_mul]; omega)
  refine r_bipush hk (dk_at D_Acc_divide 0 rfl) (by decide) ?_
  refine r_istore_n (i := 2) (ls' := [_, _, _, _, _, _]) hk (dk_at D_Acc_divide 1 rfl) rfl rfl rfl rfl ?_
  refine r_iconst hk (dk_at D_Acc_divide 2 rfl) ?_
  refine r_istore_n (i := 3) (ls' := [_, _, _, _, _, _]) hk (dk_at D_Acc_divide 3 rfl) rfl rfl rfl rfl ?_
  have e0 : dvN A 0 / v = 0 := Nat.div_eq_of_lt hU
  have eA : dvA A v 0 = A := by
    unfold dvA
    rw [e0, show dvN A 0 % v = A / 10 ^ 10 from Nat.mod_eq_of_lt hU]
    show A / 10 ^ 10 * 10 ^ 10 + A % 10 ^ 10 * 10 ^ 0 + 0 = A
    omega
  have h9 := loop 0 (Nat.zero_le _) (20 : Int) (0 : Int) (by rw [e0]; rfl) rfl (by rw [e0]; decide)
  rw [eA] at h9
  refine r_in h5 ?_
  exact h9
