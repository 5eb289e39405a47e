/-! DrumMachine.Accumulator, more -/
theorem pw20 {n : Nat} (h : n < 20) : 10 ^ (20 - n) = 10 * 10 ^ (20 - (n + 1)) := by rw [show 20 - n = 20 - (n + 1) + 1 by omega, Nat.pow_succ, Nat.mul_comm]
theorem c_Acc_less (G : Gt) {ad : Ix → Nat} {w : Wt} {A : Nat} {mn ov : Bool} {i j : Ix} {v a : Nat} {x : Value} (hA : w (4, 0) = some (ac ad mn ov)) (h5 : w (5, 0) = some (aa A)) (h1 : w i = some (.inl (3, [.ref (ad j), x]))) (h2 : w j = some (da v)) (hv : v < 10 ^ 10) (hlt : A < 10 ^ 20) (hat : a = 0 ∨ a = 10) (hj5 : j ≠ (5, 0)) : Mt G y_Acc_less w_Acc_less 0 0 0 [.ref (ad (4, 0)), .ref (ad i), .int (i32 a)] ad w (ex (some (.int (i32 (b2i (decide (A < v * 10 ^ a)))))) ad (up w (5, 0) (some (aa ((A + 10 ^ 20 - v * 10 ^ a) % 10 ^ 20))))) noT := by
  have hi5 : i ≠ (5, 0) := ij_ne h1 h5
  have hB : v * 10 ^ a < 10 ^ 20 := by rcases hat with rfl | rfl <;> omega
  refine Mt.to [some (.ref (ad (4, 0))), some (.ref (ad i)), some (.int (i32 a)), none, none, none] (fun K hk hR hin => ?_)
  have loop : ∀ n : Nat, n ≤ 20 → ∀ (u k : Int) (c : Nat) (f : Nat → Value), a ≤ n → u = (c : Int) → c ≤ 1 → k = (n : Int) → A / 10 ^ n + 10 ^ (20 - n) = v * 10 ^ a / 10 ^ n + (A + 10 ^ 20 - v * 10 ^ a) / 10 ^ n + c → (∀ m, m < n → f m = dg (A + 10 ^ 20 - v * 10 ^ a) m) → (∀ m, n ≤ m → f m = dg A m) → V G K 6 (QE G K (ex (some (.int (i32 (b2i (decide (A < v * 10 ^ a)))))) ad (up w (5, 0) (some (aa ((A + 10 ^ 20 - v * 10 ^ a) % 10 ^ 20))))) noT 0 0) 0 0 5 [some (.ref (ad (4, 0))), some (.ref (ad i)), some (.int (i32 a)), some (.int (i32 u)), some (.int (i32 k)), none] [] ad (up w (5, 0) (some (.inr (0, 20, f)))) := by
    refine nup 20 (fun n hn ih u k c f han hu hc hkk he hf hg => ?_)
    have hq := dgt_step A n
    have hd := dgt_lt A n
    have hq2 := dgt_step (v * 10 ^ a) n
    have hd2 := dgt_lt (v * 10 ^ a) n
    have hq3 := dgt_step (A + 10 ^ 20 - v * 10 ^ a) n
    have hd3 := dgt_lt (A + 10 ^ 20 - v * 10 ^ a) n
    have em : dgt (v * 10 ^ a) n = dgt v (n - a) := dgt_mul v a n han
    rw [em] at hq2 hd2
    refine r_iload (i := 4) hk (dk_at D_Acc_less 4 rfl) rfl ?_
    refine r_aload_n (i := 0) hk (dk_at D_Acc_less 5 rfl) rfl rfl ?_
    refine r_get hk fl_Acc_9 (dk_at D_Acc_less 6 rfl) ?_ (hw := (up_n h45).trans hA)
    refine r_alen hk (dk_at D_Acc_less 7 rfl) ?_
    refine r_icmp_ge (t := 80) hk (dk_at D_Acc_less 8 rfl) (by decide) (by omega) (by omega) (fun c_12 => ?_) (fun c_12 => ?_)
    · obtain rfl : n = 20 := by omega
      have e1 : A / 10 ^ 20 = 0 := Nat.div_eq_of_lt hlt
      have e2 : v * 10 ^ a / 10 ^ 20 = 0 := Nat.div_eq_of_lt hB
      have e3 : u = b2i (decide (A < v * 10 ^ a)) := by
        rw [Nat.sub_self, Nat.pow_zero] at he
        by_cases h : A < v * 10 ^ a
        · rw [decide_eq_true h, b2i_t]; omega
        · rw [decide_eq_false h, b2i_f]; omega
      subst e3
      refine r_arr (g := dg ((A + 10 ^ 20 - v * 10 ^ a) % 10 ^ 20)) (fun m hm => by rw [hf m hm]; exact dg_eq (by rw [dgt_modp _ 20 m hm])) ?_
      refine r_iload_n (i := 3) hk (dk_at D_Acc_less 47 rfl) rfl rfl ?_
      exact r_iret hk (dk_at D_Acc_less 48 rfl) ex.rf
    · have hpw := pw20 (n := n) (by omega)
      refine r_aload_n (i := 0) hk (dk_at D_Acc_less 9 rfl) rfl rfl ?_
      refine r_get hk fl_Acc_9 (dk_at D_Acc_less 10 rfl) ?_ (hw := (up_n h45).trans hA)
      refine r_iload (i := 4) hk (dk_at D_Acc_less 11 rfl) rfl ?_
      refine r_iaload (ix := n) hk (dk_at D_Acc_less 12 rfl) ?_ (hw := up_s)
      refine r_top (hg n (Nat.le_refl _)) ?_
      refine r_iload_n (i := 3) hk (dk_at D_Acc_less 13 rfl) rfl rfl ?_
      refine r_isub hk (dk_at D_Acc_less 14 rfl) ?_
      refine r_iload (i := 4) hk (dk_at D_Acc_less 15 rfl) rfl ?_
      refine r_iload_n (i := 2) hk (dk_at D_Acc_less 16 rfl) rfl rfl ?_
      refine r_bipush hk (dk_at D_Acc_less 17 rfl) (by decide) ?_
      refine r_iadd hk (dk_at D_Acc_less 18 rfl) ?_
      refine r_icmp_ge (t := 45) hk (dk_at D_Acc_less 19 rfl) (by decide) (by omega) (by omega) (fun c_30 => ?_) (fun c_30 => ?_)
      · have ez : dgt v (n - a) = 0 := dgt_big hv (by omega)
        refine r_iconst hk (dk_at D_Acc_less 27 rfl) ?_
        refine r_isub hk (dk_at D_Acc_less 28 rfl) ?_
        refine r_topi (x' := ((dgt A n : Nat) : Int) - c - ((dgt v (n - a) : Nat) : Int)) (by omega) ?_
        refine r_istore (i := 5) (ls' := [_, _, _, _, _, _]) hk (dk_at D_Acc_less 29 rfl) rfl rfl rfl ?_
        refine r_iload (i := 5) hk (dk_at D_Acc_less 30 rfl) rfl ?_
        refine r_if_ge (t := 58) hk (dk_at D_Acc_less 31 rfl) (by decide) (by omega) (fun c_51 => ?_) (fun c_51 => ?_)
        · refine r_iconst hk (dk_at D_Acc_less 34 rfl) ?_
          refine r_istore_n (i := 3) (ls' := [_, _, _, _, _, _]) hk (dk_at D_Acc_less 35 rfl) rfl rfl rfl rfl ?_
          refine r_aload_n (i := 0) hk (dk_at D_Acc_less 36 rfl) rfl rfl ?_
          refine r_get hk fl_Acc_9 (dk_at D_Acc_less 37 rfl) ?_ (hw := (up_n h45).trans hA)
          refine r_iload (i := 4) hk (dk_at D_Acc_less 38 rfl) rfl ?_
          refine r_iload (i := 5) hk (dk_at D_Acc_less 39 rfl) rfl ?_
          refine r_bipush hk (dk_at D_Acc_less 40 rfl) (by decide) ?_
          refine r_iload_n (i := 3) hk (dk_at D_Acc_less 41 rfl) rfl rfl ?_
          refine r_imul hk (dk_at D_Acc_less 42 rfl) ?_
          refine r_iadd hk (dk_at D_Acc_less 43 rfl) ?_
          refine r_iastoreU (ix := n) hk (dk_at D_Acc_less 44 rfl) ?_
          refine r_iinc (i := 4) (ls' := [_, _, _, _, _, _]) hk (dk_at D_Acc_less 45 rfl) rfl rfl rfl rfl ?_
          refine r_goto (t := 5) hk (dk_at D_Acc_less 46 rfl) (by decide) ?_
          refine r_drop 5 (ls' := [_, _, _, _, _, _]) rfl ?_
          first
            | exact ih (by omega) _ _ 1 _ (by omega) rfl (by omega) (by omega) (by omega) (ext_s hf (dg_eq (by omega))) (fun m hm => by rw [updV_n (by omega)]; exact hg m (by omega))
            | exact ih (by omega) _ _ 0 _ (by omega) rfl (by omega) (by omega) (by omega) (ext_s hf (dg_eq (by omega))) (fun m hm => by rw [updV_n (by omega)]; exact hg m (by omega))
        · refine r_iconst hk (dk_at D_Acc_less 32 rfl) ?_
          refine r_goto (t := 59) hk (dk_at D_Acc_less 33 rfl) (by decide) ?_
          refine r_istore_n (i := 3) (ls' := [_, _, _, _, _, _]) hk (dk_at D_Acc_less 35 rfl) rfl rfl rfl rfl ?_
          refine r_aload_n (i := 0) hk (dk_at D_Acc_less 36 rfl) rfl rfl ?_
          refine r_get hk fl_Acc_9 (dk_at D_Acc_less 37 rfl) ?_ (hw := (up_n h45).trans hA)
          refine r_iload (i := 4) hk (dk_at D_Acc_less 38 rfl) rfl ?_
          refine r_iload (i := 5) hk (dk_at D_Acc_less 39 rfl) rfl ?_
          refine r_bipush hk (dk_at D_Acc_less 40 rfl) (by decide) ?_
          refine r_iload_n (i := 3) hk (dk_at D_Acc_less 41 rfl) rfl rfl ?_
          refine r_imul hk (dk_at D_Acc_less 42 rfl) ?_
          refine r_iadd hk (dk_at D_Acc_less 43 rfl) ?_
          refine r_iastoreU (ix := n) hk (dk_at D_Acc_less 44 rfl) ?_
          refine r_iinc (i := 4) (ls' := [_, _, _, _, _, _]) hk (dk_at D_Acc_less 45 rfl) rfl rfl rfl rfl ?_
          refine r_goto (t := 5) hk (dk_at D_Acc_less 46 rfl) (by decide) ?_
          refine r_drop 5 (ls' := [_, _, _, _, _, _]) rfl ?_
          first
            | exact ih (by omega) _ _ 1 _ (by omega) rfl (by omega) (by omega) (by omega) (ext_s hf (dg_eq (by omega))) (fun m hm => by rw [updV_n (by omega)]; exact hg m (by omega))
            | exact ih (by omega) _ _ 0 _ (by omega) rfl (by omega) (by omega) (by omega) (ext_s hf (dg_eq (by omega))) (fun m hm => by rw [updV_n (by omega)]; exact hg m (by omega))
      · refine r_aload_n (i := 1) hk (dk_at D_Acc_less 20 rfl) rfl rfl ?_
        refine r_getN hk fl_Acc_32 (dk_at D_Acc_less 21 rfl) ?_ (hw := (up_n hi5).trans h1)
        refine r_iload (i := 4) hk (dk_at D_Acc_less 22 rfl) rfl ?_
        refine r_iload_n (i := 2) hk (dk_at D_Acc_less 23 rfl) rfl rfl ?_
        refine r_isub hk (dk_at D_Acc_less 24 rfl) ?_
        refine r_iaload (ix := (n - a)) hk (dk_at D_Acc_less 25 rfl) ?_ (hw := (up_n hj5).trans h2)
        refine r_goto (t := 46) hk (dk_at D_Acc_less 26 rfl) (by decide) ?_
        refine r_isub hk (dk_at D_Acc_less 28 rfl) ?_
        refine r_topi (x' := ((dgt A n : Nat) : Int) - c - ((dgt v (n - a) : Nat) : Int)) (by omega) ?_
        refine r_istore (i := 5) (ls' := [_, _, _, _, _, _]) hk (dk_at D_Acc_less 29 rfl) rfl rfl rfl ?_
        refine r_iload (i := 5) hk (dk_at D_Acc_less 30 rfl) rfl ?_
        refine r_if_ge (t := 58) hk (dk_at D_Acc_less 31 rfl) (by decide) (by omega) (fun c_51 => ?_) (fun c_51 => ?_)
        · refine r_iconst hk (dk_at D_Acc_less 34 rfl) ?_
          refine r_istore_n (i := 3) (ls' := [_, _, _, _, _, _]) hk (dk_at D_Acc_less 35 rfl) rfl rfl rfl rfl ?_
          refine r_aload_n (i := 0) hk (dk_at D_Acc_less 36 rfl) rfl rfl ?_
          refine r_get hk fl_Acc_9 (dk_at D_Acc_less 37 rfl) ?_ (hw := (up_n h45).trans hA)
          refine r_iload (i := 4) hk (dk_at D_Acc_less 38 rfl) rfl ?_
          refine r_iload (i := 5) hk (dk_at D_Acc_less 39 rfl) rfl ?_
          refine r_bipush hk (dk_at D_Acc_less 40 rfl) (by decide) ?_
          refine r_iload_n (i := 3) hk (dk_at D_Acc_less 41 rfl) rfl rfl ?_
          refine r_imul hk (dk_at D_Acc_less 42 rfl) ?_
          refine r_iadd hk (dk_at D_Acc_less 43 rfl) ?_
          refine r_iastoreU (ix := n) hk (dk_at D_Acc_less 44 rfl) ?_
          refine r_iinc (i := 4) (ls' := [_, _, _, _, _, _]) hk (dk_at D_Acc_less 45 rfl) rfl rfl rfl rfl ?_
          refine r_goto (t := 5) hk (dk_at D_Acc_less 46 rfl) (by decide) ?_
          refine r_drop 5 (ls' := [_, _, _, _, _, _]) rfl ?_
          first
            | exact ih (by omega) _ _ 1 _ (by omega) rfl (by omega) (by omega) (by omega) (ext_s hf (dg_eq (by omega))) (fun m hm => by rw [updV_n (by omega)]; exact hg m (by omega))
            | exact ih (by omega) _ _ 0 _ (by omega) rfl (by omega) (by omega) (by omega) (ext_s hf (dg_eq (by omega))) (fun m hm => by rw [updV_n (by omega)]; exact hg m (by omega))
        · refine r_iconst hk (dk_at D_Acc_less 32 rfl) ?_
          refine r_goto (t := 59) hk (dk_at D_Acc_less 33 rfl) (by decide) ?_
          refine r_istore_n (i := 3) (ls' := [_, _, _, _, _, _]) hk (dk_at D_Acc_less 35 rfl) rfl rfl rfl rfl ?_
          refine r_aload_n (i := 0) hk (dk_at D_Acc_less 36 rfl) rfl rfl ?_
          refine r_get hk fl_Acc_9 (dk_at D_Acc_less 37 rfl) ?_ (hw := (up_n h45).trans hA)
          refine r_iload (i := 4) hk (dk_at D_Acc_less 38 rfl) rfl ?_
          refine r_iload (i := 5) hk (dk_at D_Acc_less 39 rfl) rfl ?_
          refine r_bipush hk (dk_at D_Acc_less 40 rfl) (by decide) ?_
          refine r_iload_n (i := 3) hk (dk_at D_Acc_less 41 rfl) rfl rfl ?_
          refine r_imul hk (dk_at D_Acc_less 42 rfl) ?_
          refine r_iadd hk (dk_at D_Acc_less 43 rfl) ?_
          refine r_iastoreU (ix := n) hk (dk_at D_Acc_less 44 rfl) ?_
          refine r_iinc (i := 4) (ls' := [_, _, _, _, _, _]) hk (dk_at D_Acc_less 45 rfl) rfl rfl rfl rfl ?_
          refine r_goto (t := 5) hk (dk_at D_Acc_less 46 rfl) (by decide) ?_
          refine r_drop 5 (ls' := [_, _, _, _, _, _]) rfl ?_
          first
            | exact ih (by omega) _ _ 1 _ (by omega) rfl (by omega) (by omega) (by omega) (ext_s hf (dg_eq (by omega))) (fun m hm => by rw [updV_n (by omega)]; exact hg m (by omega))
            | exact ih (by omega) _ _ 0 _ (by omega) rfl (by omega) (by omega) (by omega) (ext_s hf (dg_eq (by omega))) (fun m hm => by rw [updV_n (by omega)]; exact hg m (by omega))
  refine r_iconst hk (dk_at D_Acc_less 0 rfl) ?_
  refine r_istore_n (i := 3) (ls' := [_, _, _, _, _, _]) hk (dk_at D_Acc_less 1 rfl) rfl rfl rfl rfl ?_
  refine r_iload_n (i := 2) hk (dk_at D_Acc_less 2 rfl) rfl rfl ?_
  refine r_istore (i := 4) (ls' := [_, _, _, _, _, _]) hk (dk_at D_Acc_less 3 rfl) rfl rfl rfl ?_
  refine r_in h5 ?_
  exact loop a (by omega) _ _ 0 _ (Nat.le_refl _) rfl (by omega) rfl (by rcases hat with rfl | rfl <;> omega) (fun m hm => by
    have hz : a = 10 := by omega
    subst hz
    exact dg_eq (by rw [show A + 10 ^ 20 - v * 10 ^ 10 = A + (10 ^ 10 - v) * 10 ^ 10 by omega]; unfold dgt; rw [low_add A _ m (by omega)])) (fun m _ => rfl)
theorem c_Acc_turn (G : Gt) {ad : Ix → Nat} {w : Wt} {A : Nat} {mn ov : Bool} (hA : w (4, 0) = some (ac ad mn ov)) (h5 : w (5, 0) = some (aa A)) (hlt : A < 10 ^ 20) : Mt G y_Acc_turn w_Acc_turn 0 0 0 [.ref (ad (4, 0))] ad w (ex none ad (up w (5, 0) (some (aa ((10 ^ 20 - A) % 10 ^ 20))))) noT := by
  refine Mt.to [some (.ref (ad (4, 0))), none, none, none] (fun K hk hR hin => ?_)
  have loop : ∀ n : Nat, n ≤ 20 → ∀ (u k : Int) (c : Nat) (f : Nat → Value), u = (c : Int) → c ≤ 1 → k = (n : Int) → A / 10 ^ n + (10 ^ 20 - A) / 10 ^ n + 1 = 10 ^ (20 - n) + c → (∀ m, m < n → f m = dg (10 ^ 20 - A) m) → (∀ m, n ≤ m → f m = dg A m) → V G K 4 (QE G K (ex none ad (up w (5, 0) (some (aa ((10 ^ 20 - A) % 10 ^ 20))))) noT 0 0) 0 0 4 [some (.ref (ad (4, 0))), some (.int (i32 u)), some (.int (i32 k)), none] [] ad (up w (5, 0) (some (.inr (0, 20, f)))) := by
    refine nup 20 (fun n hn ih u k c f hu hc hkk he hf hg => ?_)
    have hq := dgt_step A n
    have hd := dgt_lt A n
    have hq3 := dgt_step (10 ^ 20 - A) n
    have hd3 := dgt_lt (10 ^ 20 - A) n
    refine r_iload_n (i := 2) hk (dk_at D_Acc_turn 4 rfl) rfl rfl ?_
    refine r_aload_n (i := 0) hk (dk_at D_Acc_turn 5 rfl) rfl rfl ?_
    refine r_get hk fl_Acc_9 (dk_at D_Acc_turn 6 rfl) ?_ (hw := (up_n h45).trans hA)
    refine r_alen hk (dk_at D_Acc_turn 7 rfl) ?_
    refine r_icmp_ge (t := 46) hk (dk_at D_Acc_turn 8 rfl) (by decide) (by omega) (by omega) (fun c_10 => ?_) (fun c_10 => ?_)
    · obtain rfl : n = 20 := by omega
      refine r_arr (g := dg ((10 ^ 20 - A) % 10 ^ 20)) (fun m hm => by rw [hf m hm]; exact dg_eq (by rw [dgt_modp _ 20 m hm])) ?_
      exact r_vret hk (dk_at D_Acc_turn 31 rfl) ex.rf
    · have hpw := pw20 (n := n) (by omega)
      refine r_bipush hk (dk_at D_Acc_turn 9 rfl) (by decide) ?_
      refine r_aload_n (i := 0) hk (dk_at D_Acc_turn 10 rfl) rfl rfl ?_
      refine r_get hk fl_Acc_9 (dk_at D_Acc_turn 11 rfl) ?_ (hw := (up_n h45).trans hA)
      refine r_iload_n (i := 2) hk (dk_at D_Acc_turn 12 rfl) rfl rfl ?_
      refine r_iaload (ix := n) hk (dk_at D_Acc_turn 13 rfl) ?_ (hw := up_s)
      refine r_top (hg n (Nat.le_refl _)) ?_
      refine r_isub hk (dk_at D_Acc_turn 14 rfl) ?_
      refine r_iload_n (i := 1) hk (dk_at D_Acc_turn 15 rfl) rfl rfl ?_
      refine r_iadd hk (dk_at D_Acc_turn 16 rfl) ?_
      refine r_topi (x' := ((9 + c - dgt A n : Nat) : Int)) (by omega) ?_
      refine r_istore_n (i := 3) (ls' := [_, _, _, _]) hk (dk_at D_Acc_turn 17 rfl) rfl rfl rfl rfl ?_
      refine r_aload_n (i := 0) hk (dk_at D_Acc_turn 18 rfl) rfl rfl ?_
      refine r_get hk fl_Acc_9 (dk_at D_Acc_turn 19 rfl) ?_ (hw := (up_n h45).trans hA)
      refine r_iload_n (i := 2) hk (dk_at D_Acc_turn 20 rfl) rfl rfl ?_
      refine r_iload_n (i := 3) hk (dk_at D_Acc_turn 21 rfl) rfl rfl ?_
      refine r_bipush hk (dk_at D_Acc_turn 22 rfl) (by decide) ?_
      refine r_irem hk (dk_at D_Acc_turn 23 rfl) (by omega) (by omega) ?_
      refine r_iastoreU (ix := n) hk (dk_at D_Acc_turn 24 rfl) ?_
      refine r_iload_n (i := 3) hk (dk_at D_Acc_turn 25 rfl) rfl rfl ?_
      refine r_bipush hk (dk_at D_Acc_turn 26 rfl) (by decide) ?_
      refine r_idiv hk (dk_at D_Acc_turn 27 rfl) (by omega) (by omega) ?_
      refine r_istore_n (i := 1) (ls' := [_, _, _, _]) hk (dk_at D_Acc_turn 28 rfl) rfl rfl rfl rfl ?_
      refine r_iinc (i := 2) (ls' := [_, _, _, _]) hk (dk_at D_Acc_turn 29 rfl) rfl rfl rfl rfl ?_
      refine r_goto (t := 4) hk (dk_at D_Acc_turn 30 rfl) (by decide) ?_
      refine r_drop 3 (ls' := [_, _, _, _]) rfl ?_
      exact ih (by omega) _ _ ((9 + c - dgt A n) / 10) _ (by omega) (by omega) (by omega) (by omega) (ext_s hf (dg_eq (by omega))) (fun m hm => by rw [updV_n (by omega)]; exact hg m (by omega))
  refine r_iconst hk (dk_at D_Acc_turn 0 rfl) ?_
  refine r_istore_n (i := 1) (ls' := [_, _, _, _]) hk (dk_at D_Acc_turn 1 rfl) rfl rfl rfl rfl ?_
  refine r_iconst hk (dk_at D_Acc_turn 2 rfl) ?_
  refine r_istore_n (i := 2) (ls' := [_, _, _, _]) hk (dk_at D_Acc_turn 3 rfl) rfl rfl rfl rfl ?_
  refine r_in h5 ?_
  exact loop 0 (by omega) _ _ 1 _ rfl (by omega) rfl (by omega) ext_0 (fun m _ => rfl)
/-- adding B with a sign: the number, its sign, overflow -/
def adA (A B : Nat) (same : Bool) : Nat := cond same ((A + B) % 10 ^ 20) (if B ≤ A then A - B else B - A)
def adM (A B : Nat) (mn same : Bool) : Bool := cond same mn (if B ≤ A then mn else !mn)
def adO (A B : Nat) (ov same : Bool) : Bool := cond same (ov || decide (10 ^ 20 ≤ A + B)) ov
theorem adA_lt {A B : Nat} {same : Bool} (hA : A < 10 ^ 20) (hB : B < 10 ^ 20) : adA A B same < 10 ^ 20 := by
  cases same
  · show (if B ≤ A then A - B else B - A) < _
    split <;> omega
  · exact Nat.mod_lt _ (by decide)
theorem same_f {a b : Bool} (h : a ≠ b) : (a == b) = false := by revert h; cases a <;> cases b <;> decide
theorem same_t {a b : Bool} (h : a = b) : (a == b) = true := by subst h; cases a <;> rfl
theorem c_Acc_add (G : Gt) {ad : Ix → Nat} {w : Wt} {A : Nat} {mn ov : Bool} {i j : Ix} {v a : Nat} {x : Value} {sg : Bool} (hA : w (4, 0) = some (ac ad mn ov)) (h5 : w (5, 0) = some (aa A)) (h1 : w i = some (.inl (3, [.ref (ad j), x]))) (h2 : w j = some (da v)) (hv : v < 10 ^ 10) (hlt : A < 10 ^ 20) (hat : a = 0 ∨ a = 10) (hj5 : j ≠ (5, 0)) : Mt G y_Acc_add w_Acc_add 1 0 0 [.ref (ad (4, 0)), .ref (ad i), .int (i32 a), .int (i32 (b2i sg))] ad w (ex none ad (up (up w (5, 0) (some (aa (adA A (v * 10 ^ a) (sg == mn))))) (4, 0) (some (ac ad (adM A (v * 10 ^ a) mn (sg == mn)) (adO A (v * 10 ^ a) ov (sg == mn)))))) noT := by
  have hB : v * 10 ^ a < 10 ^ 20 := by rcases hat with rfl | rfl <;> omega
  refine Mt.to [some (.ref (ad (4, 0))), some (.ref (ad i)), some (.int (i32 a)), some (.int (i32 (b2i sg)))] (fun K hk hR hin => ?_)
  refine r_iload_n (i := 3) hk (dk_at D_Acc_add 0 rfl) rfl rfl ?_
  refine r_aload_n (i := 0) hk (dk_at D_Acc_add 1 rfl) rfl rfl ?_
  refine r_get hk fl_Acc_28 (dk_at D_Acc_add 2 rfl) ?_
  refine r_icmp_neB (t := 25) hk (dk_at D_Acc_add 3 rfl) (by decide) (fun c_5 => ?_) (fun c_5 => ?_)
  · rw [same_f c_5]
    refine r_aload_n (i := 0) hk (dk_at D_Acc_add 13 rfl) rfl rfl ?_
    refine r_aload_n (i := 1) hk (dk_at D_Acc_add 14 rfl) rfl rfl ?_
    refine r_iload_n (i := 2) hk (dk_at D_Acc_add 15 rfl) rfl rfl ?_
    refine r_callV hk hR m_Acc_less s_Acc_less ml_Acc_41 (dk_at D_Acc_add 16 rfl) (c_Acc_less G hA h5 h1 h2 hv hlt hat hj5) ?_
    have hb := b2i_r (decide (A < v * 10 ^ a))
    refine r_if_le (t := 54) hk (dk_at D_Acc_add 17 rfl) (by decide) (by omega) (fun c_31 => ?_) (fun c_31 => ?_)
    · have hle : v * 10 ^ a ≤ A := by
        by_cases h : A < v * 10 ^ a
        · rw [decide_eq_true h] at c_31; exact absurd c_31 (by decide)
        · omega
      have e1 : adA A (v * 10 ^ a) false = A - v * 10 ^ a := if_pos hle
      have e2 : adM A (v * 10 ^ a) mn false = mn := if_pos hle
      have e3 : (A + 10 ^ 20 - v * 10 ^ a) % 10 ^ 20 = A - v * 10 ^ a := by omega
      rw [e1, e2, e3]
      refine r_in ((up_n h45).trans hA) ?_
      exact r_vret hk (dk_at D_Acc_add 28 rfl) ex.rf
    · have hle : A < v * 10 ^ a := by
        by_cases h : A < v * 10 ^ a
        · exact h
        · rw [decide_eq_false h] at c_31; exact absurd c_31 (by decide)
      have e1 : adA A (v * 10 ^ a) false = v * 10 ^ a - A := if_neg (by omega)
      have e2 : adM A (v * 10 ^ a) mn false = !mn := if_neg (by omega)
      have e3 : (A + 10 ^ 20 - v * 10 ^ a) % 10 ^ 20 = A + 10 ^ 20 - v * 10 ^ a := by omega
      rw [e1, e2, e3]
      refine r_aload_n (i := 0) hk (dk_at D_Acc_add 18 rfl) rfl rfl ?_
      refine r_callVv hk hR m_Acc_turn s_Acc_turn ml_Acc_44 (dk_at D_Acc_add 19 rfl) (c_Acc_turn G (A := A + 10 ^ 20 - v * 10 ^ a) ((up_n h45).trans hA) up_s (by omega)) ?_ (hw := (up_n h45).trans hA)
      rw [up_up, show (10 ^ 20 - (A + 10 ^ 20 - v * 10 ^ a)) % 10 ^ 20 = v * 10 ^ a - A by omega]
      refine r_aload_n (i := 0) hk (dk_at D_Acc_add 20 rfl) rfl rfl ?_
      refine r_aload_n (i := 0) hk (dk_at D_Acc_add 21 rfl) rfl rfl ?_
      refine r_get hk fl_Acc_28 (dk_at D_Acc_add 22 rfl) ?_ (hw := (up_n h45).trans hA)
      refine r_if_neB (t := 50) hk (dk_at D_Acc_add 23 rfl) (by decide) (fun c_43 => ?_) (fun c_43 => ?_)
      · subst c_43
        refine r_iconst hk (dk_at D_Acc_add 26 rfl) ?_
        first
          | refine r_put (fs' := [_, .int (i32 (b2i true)), _, _, _]) hk fl_Acc_28 ft_Acc_1 (dk_at D_Acc_add 27 rfl) ?_ (hw := (up_n h45).trans hA)
          | refine r_put (fs' := [_, .int (i32 (b2i false)), _, _, _]) hk fl_Acc_28 ft_Acc_1 (dk_at D_Acc_add 27 rfl) ?_ (hw := (up_n h45).trans hA)
        exact r_vret hk (dk_at D_Acc_add 28 rfl) ex.rf
      · subst c_43
        refine r_iconst hk (dk_at D_Acc_add 24 rfl) ?_
        refine r_goto (t := 51) hk (dk_at D_Acc_add 25 rfl) (by decide) ?_
        first
          | refine r_put (fs' := [_, .int (i32 (b2i true)), _, _, _]) hk fl_Acc_28 ft_Acc_1 (dk_at D_Acc_add 27 rfl) ?_ (hw := (up_n h45).trans hA)
          | refine r_put (fs' := [_, .int (i32 (b2i false)), _, _, _]) hk fl_Acc_28 ft_Acc_1 (dk_at D_Acc_add 27 rfl) ?_ (hw := (up_n h45).trans hA)
        exact r_vret hk (dk_at D_Acc_add 28 rfl) ex.rf
  · rw [same_t c_5]
    show V G K 4 (QE G K (ex none ad (up (up w (5, 0) (some (aa ((A + v * 10 ^ a) % 10 ^ 20)))) (4, 0) (some (ac ad mn (ov || decide (10 ^ 20 ≤ A + v * 10 ^ a)))))) noT 0 0) 0 0 8 _ _ ad w
    refine r_aload_n (i := 0) hk (dk_at D_Acc_add 4 rfl) rfl rfl ?_
    refine r_aload_n (i := 1) hk (dk_at D_Acc_add 5 rfl) rfl rfl ?_
    refine r_iload_n (i := 2) hk (dk_at D_Acc_add 6 rfl) rfl rfl ?_
    refine r_callV hk hR m_Acc_plus s_Acc_plus ml_Acc_34 (dk_at D_Acc_add 7 rfl) (c_Acc_plus G hA h5 h1 h2 hv hlt hat hj5) ?_
    refine r_if_le (t := 54) hk (dk_at D_Acc_add 8 rfl) (by decide) (by omega) (fun c_14 => ?_) (fun c_14 => ?_)
    · have e : decide (10 ^ 20 ≤ A + v * 10 ^ a) = false := decide_eq_false (by omega)
      rw [e, Bool.or_false]
      refine r_in ((up_n h45).trans hA) ?_
      exact r_vret hk (dk_at D_Acc_add 28 rfl) ex.rf
    · have e : decide (10 ^ 20 ≤ A + v * 10 ^ a) = true := decide_eq_true (by omega)
      rw [e, Bool.or_true]
      refine r_aload_n (i := 0) hk (dk_at D_Acc_add 9 rfl) rfl rfl ?_
      refine r_iconst hk (dk_at D_Acc_add 10 rfl) ?_
      refine r_put (fs' := [_, _, .int (i32 (b2i true)), _, _]) hk fl_Acc_38 ft_Acc_2 (dk_at D_Acc_add 11 rfl) ?_ (hw := (up_n h45).trans hA)
      refine r_goto (t := 54) hk (dk_at D_Acc_add 12 rfl) (by decide) ?_
      exact r_vret hk (dk_at D_Acc_add 28 rfl) ex.rf
theorem c_Acc_shiftLeft (G : Gt) {ad : Ix → Nat} {w : Wt} {A : Nat} {mn ov : Bool} {b : Nat} (hA : w (4, 0) = some (ac ad mn ov)) (h5 : w (5, 0) = some (aa A)) (hb : b ≤ 20) : Mt G y_Acc_shiftLeft w_Acc_shiftLeft 0 0 0 [.ref (ad (4, 0)), .int (i32 b)] ad w (ex none ad (up w (5, 0) (some (aa (A * 10 ^ b % 10 ^ 20))))) noT := by
  refine Mt.to [some (.ref (ad (4, 0))), some (.int (i32 b)), none] (fun K hk hR hin => ?_)
  have loop : ∀ n : Nat, n ≤ 20 → ∀ (k : Int) (f : Nat → Value), k = (n : Int) - 1 → (∀ m, n ≤ m → m < 20 → f m = dg (A * 10 ^ b % 10 ^ 20) m) → (∀ m, m < n → f m = dg A m) → V G K 3 (QE G K (ex none ad (up w (5, 0) (some (aa (A * 10 ^ b % 10 ^ 20))))) noT 0 0) 0 0 8 [some (.ref (ad (4, 0))), some (.int (i32 b)), some (.int (i32 k))] [] ad (up w (5, 0) (some (.inr (0, 20, f)))) := by
    refine ndown (fun n ih hn k f hkk hf hg => ?_)
    refine r_iload_n (i := 2) hk (dk_at D_Acc_shiftLeft 6 rfl) rfl rfl ?_
    refine r_if_lt (t := 41) hk (dk_at D_Acc_shiftLeft 7 rfl) (by decide) (by omega) (fun c_9 => ?_) (fun c_9 => ?_)
    · obtain rfl : n = 0 := by omega
      refine r_arr (fun m hm => hf m (by omega) hm) ?_
      exact r_vret hk (dk_at D_Acc_shiftLeft 25 rfl) ex.rf
    · obtain ⟨m, rfl⟩ : ∃ m, n = m + 1 := ⟨n - 1, by omega⟩
      refine r_aload_n (i := 0) hk (dk_at D_Acc_shiftLeft 8 rfl) rfl rfl ?_
      refine r_get hk fl_Acc_9 (dk_at D_Acc_shiftLeft 9 rfl) ?_ (hw := (up_n h45).trans hA)
      refine r_iload_n (i := 2) hk (dk_at D_Acc_shiftLeft 10 rfl) rfl rfl ?_
      refine r_iload_n (i := 2) hk (dk_at D_Acc_shiftLeft 11 rfl) rfl rfl ?_
      refine r_iload_n (i := 1) hk (dk_at D_Acc_shiftLeft 12 rfl) rfl rfl ?_
      refine r_icmp_ge (t := 26) hk (dk_at D_Acc_shiftLeft 13 rfl) (by decide) (by omega) (by omega) (fun c_19 => ?_) (fun c_19 => ?_)
      · have ev : dgt (A * 10 ^ b % 10 ^ 20) m = dgt A (m - b) := by rw [dgt_modp _ 20 m (by omega), dgt_mul A b m (by omega)]
        refine r_aload_n (i := 0) hk (dk_at D_Acc_shiftLeft 16 rfl) rfl rfl ?_
        refine r_get hk fl_Acc_9 (dk_at D_Acc_shiftLeft 17 rfl) ?_ (hw := (up_n h45).trans hA)
        refine r_iload_n (i := 2) hk (dk_at D_Acc_shiftLeft 18 rfl) rfl rfl ?_
        refine r_iload_n (i := 1) hk (dk_at D_Acc_shiftLeft 19 rfl) rfl rfl ?_
        refine r_isub hk (dk_at D_Acc_shiftLeft 20 rfl) ?_
        refine r_iaload (ix := (m - b)) hk (dk_at D_Acc_shiftLeft 21 rfl) ?_ (hw := up_s)
        refine r_top (hg (m - b) (by omega)) ?_
        refine r_iastoreU (ix := m) hk (dk_at D_Acc_shiftLeft 22 rfl) ?_
        refine r_iinc (i := 2) (ls' := [_, _, _]) hk (dk_at D_Acc_shiftLeft 23 rfl) rfl rfl rfl rfl ?_
        refine r_goto (t := 8) hk (dk_at D_Acc_shiftLeft 24 rfl) (by decide) ?_
        exact ih m rfl (by omega) _ _ (by omega) (fun q h1 h2 => by
          by_cases e : q = m
          · subst e; rw [updV_s]; exact dg_eq (by first | (rw [ev]; done) | (rw [ev]; rfl))
          · rw [updV_n e]; exact hf q (by omega) h2) (fun q hq => by rw [updV_n (by omega)]; exact hg q (by omega))
      · have ev : dgt (A * 10 ^ b % 10 ^ 20) m = 0 := by rw [dgt_modp _ 20 m (by omega), dgt_mul0 A b m (by omega)]
        refine r_iconst hk (dk_at D_Acc_shiftLeft 14 rfl) ?_
        refine r_goto (t := 34) hk (dk_at D_Acc_shiftLeft 15 rfl) (by decide) ?_
        refine r_iastoreU (ix := m) hk (dk_at D_Acc_shiftLeft 22 rfl) ?_
        refine r_iinc (i := 2) (ls' := [_, _, _]) hk (dk_at D_Acc_shiftLeft 23 rfl) rfl rfl rfl rfl ?_
        refine r_goto (t := 8) hk (dk_at D_Acc_shiftLeft 24 rfl) (by decide) ?_
        exact ih m rfl (by omega) _ _ (by omega) (fun q h1 h2 => by
          by_cases e : q = m
          · subst e; rw [updV_s]; exact dg_eq (by first | (rw [ev]; done) | (rw [ev]; rfl))
          · rw [updV_n e]; exact hf q (by omega) h2) (fun q hq => by rw [updV_n (by omega)]; exact hg q (by omega))
  refine r_aload_n (i := 0) hk (dk_at D_Acc_shiftLeft 0 rfl) rfl rfl ?_
  refine r_get hk fl_Acc_9 (dk_at D_Acc_shiftLeft 1 rfl) ?_
  refine r_alen hk (dk_at D_Acc_shiftLeft 2 rfl) ?_
  refine r_iconst hk (dk_at D_Acc_shiftLeft 3 rfl) ?_
  refine r_isub hk (dk_at D_Acc_shiftLeft 4 rfl) ?_
  refine r_istore_n (i := 2) (ls' := [_, _, _]) hk (dk_at D_Acc_shiftLeft 5 rfl) rfl rfl rfl rfl ?_
  refine r_in h5 ?_
  exact loop 20 (by omega) _ _ rfl (fun m h1 h2 => by omega) (fun m _ => rfl)
theorem c_Acc_shiftRight (G : Gt) {ad : Ix → Nat} {w : Wt} {A : Nat} {mn ov : Bool} {b : Nat} (hA : w (4, 0) = some (ac ad mn ov)) (h5 : w (5, 0) = some (aa A)) (hlt : A < 10 ^ 20) (hb : b ≤ 10) : Mt G y_Acc_shiftRight w_Acc_shiftRight 0 0 0 [.ref (ad (4, 0)), .int (i32 b)] ad w (ex (some (.int (i32 (((if b = 0 then 0 else dgt A (b - 1)) : Nat) : Int)))) ad (up w (5, 0) (some (aa (A / 10 ^ b))))) noT := by
  refine Mt.to [some (.ref (ad (4, 0))), some (.int (i32 b)), none, none] (fun K hk hR hin => ?_)
  have loop : ∀ n : Nat, n ≤ 20 → ∀ (k : Int) (f : Nat → Value), k = (n : Int) → (∀ m, m < n → f m = dg (A / 10 ^ b) m) → (∀ m, n ≤ m → f m = dg A m) → V G K 4 (QE G K (ex (some (.int (i32 (((if b = 0 then 0 else dgt A (b - 1)) : Nat) : Int)))) ad (up w (5, 0) (some (aa (A / 10 ^ b))))) noT 0 0) 0 0 19 [some (.ref (ad (4, 0))), some (.int (i32 b)), some (.int (i32 (((if b = 0 then 0 else dgt A (b - 1)) : Nat) : Int))), some (.int (i32 k))] [] ad (up w (5, 0) (some (.inr (0, 20, f)))) := by
    refine nup 20 (fun n hn ih k f hkk hf hg => ?_)
    have ev : dgt (A / 10 ^ b) n = dgt A (b + n) := dgt_div A b n
    refine r_iload_n (i := 3) hk (dk_at D_Acc_shiftRight 13 rfl) rfl rfl ?_
    refine r_aload_n (i := 0) hk (dk_at D_Acc_shiftRight 14 rfl) rfl rfl ?_
    refine r_get hk fl_Acc_9 (dk_at D_Acc_shiftRight 15 rfl) ?_ (hw := (up_n h45).trans hA)
    refine r_alen hk (dk_at D_Acc_shiftRight 16 rfl) ?_
    refine r_icmp_ge (t := 63) hk (dk_at D_Acc_shiftRight 17 rfl) (by decide) (by omega) (by omega) (fun c_25 => ?_) (fun c_25 => ?_)
    · obtain rfl : n = 20 := by omega
      refine r_arr hf ?_
      refine r_iload_n (i := 2) hk (dk_at D_Acc_shiftRight 39 rfl) rfl rfl ?_
      exact r_iret hk (dk_at D_Acc_shiftRight 40 rfl) ex.rf
    · refine r_aload_n (i := 0) hk (dk_at D_Acc_shiftRight 18 rfl) rfl rfl ?_
      refine r_get hk fl_Acc_9 (dk_at D_Acc_shiftRight 19 rfl) ?_ (hw := (up_n h45).trans hA)
      refine r_iload_n (i := 3) hk (dk_at D_Acc_shiftRight 20 rfl) rfl rfl ?_
      refine r_iload_n (i := 3) hk (dk_at D_Acc_shiftRight 21 rfl) rfl rfl ?_
      refine r_iload_n (i := 1) hk (dk_at D_Acc_shiftRight 22 rfl) rfl rfl ?_
      refine r_iadd hk (dk_at D_Acc_shiftRight 23 rfl) ?_
      refine r_aload_n (i := 0) hk (dk_at D_Acc_shiftRight 24 rfl) rfl rfl ?_
      refine r_get hk fl_Acc_9 (dk_at D_Acc_shiftRight 25 rfl) ?_ (hw := (up_n h45).trans hA)
      refine r_alen hk (dk_at D_Acc_shiftRight 26 rfl) ?_
      refine r_icmp_ge (t := 55) hk (dk_at D_Acc_shiftRight 27 rfl) (by decide) (by omega) (by omega) (fun c_41 => ?_) (fun c_41 => ?_)
      · have ez : dgt A (b + n) = 0 := dgt_big hlt (by omega)
        refine r_iconst hk (dk_at D_Acc_shiftRight 35 rfl) ?_
        refine r_iastoreU (ix := n) hk (dk_at D_Acc_shiftRight 36 rfl) ?_
        refine r_iinc (i := 3) (ls' := [_, _, _, _]) hk (dk_at D_Acc_shiftRight 37 rfl) rfl rfl rfl rfl ?_
        refine r_goto (t := 19) hk (dk_at D_Acc_shiftRight 38 rfl) (by decide) ?_
        exact ih (by omega) _ _ (by omega) (ext_s hf (dg_eq (by first | (rw [ev]; done) | (rw [ev, ez]; done) | (rw [ev, ez]; rfl)))) (fun m hm => by rw [updV_n (by omega)]; exact hg m (by omega))
      · refine r_aload_n (i := 0) hk (dk_at D_Acc_shiftRight 28 rfl) rfl rfl ?_
        refine r_get hk fl_Acc_9 (dk_at D_Acc_shiftRight 29 rfl) ?_ (hw := (up_n h45).trans hA)
        refine r_iload_n (i := 3) hk (dk_at D_Acc_shiftRight 30 rfl) rfl rfl ?_
        refine r_iload_n (i := 1) hk (dk_at D_Acc_shiftRight 31 rfl) rfl rfl ?_
        refine r_iadd hk (dk_at D_Acc_shiftRight 32 rfl) ?_
        refine r_iaload (ix := (b + n)) hk (dk_at D_Acc_shiftRight 33 rfl) ?_ (hw := up_s)
        refine r_top (hg (b + n) (by omega)) ?_
        refine r_goto (t := 56) hk (dk_at D_Acc_shiftRight 34 rfl) (by decide) ?_
        refine r_iastoreU (ix := n) hk (dk_at D_Acc_shiftRight 36 rfl) ?_
        refine r_iinc (i := 3) (ls' := [_, _, _, _]) hk (dk_at D_Acc_shiftRight 37 rfl) rfl rfl rfl rfl ?_
        refine r_goto (t := 19) hk (dk_at D_Acc_shiftRight 38 rfl) (by decide) ?_
        exact ih (by omega) _ _ (by omega) (ext_s hf (dg_eq (by first | (rw [ev]; done) | (rw [ev, ez]; done) | (rw [ev, ez]; rfl)))) (fun m hm => by rw [updV_n (by omega)]; exact hg m (by omega))
  refine r_iload_n (i := 1) hk (dk_at D_Acc_shiftRight 0 rfl) rfl rfl ?_
  refine r_if_ne (t := 8) hk (dk_at D_Acc_shiftRight 1 rfl) (by decide) (by omega) (fun c_1 => ?_) (fun c_1 => ?_)
  · have eb : (if b = 0 then 0 else dgt A (b - 1)) = dgt A (b - 1) := if_neg (by omega)
    rw [eb] at loop
    rw [eb]
    refine r_aload_n (i := 0) hk (dk_at D_Acc_shiftRight 4 rfl) rfl rfl ?_
    refine r_get hk fl_Acc_9 (dk_at D_Acc_shiftRight 5 rfl) ?_
    refine r_iload_n (i := 1) hk (dk_at D_Acc_shiftRight 6 rfl) rfl rfl ?_
    refine r_iconst hk (dk_at D_Acc_shiftRight 7 rfl) ?_
    refine r_isub hk (dk_at D_Acc_shiftRight 8 rfl) ?_
    refine r_iaload (ix := (b - 1)) hk (dk_at D_Acc_shiftRight 9 rfl) ?_
    refine r_istore_n (i := 2) (ls' := [_, _, _, _]) hk (dk_at D_Acc_shiftRight 10 rfl) rfl rfl rfl rfl ?_
    refine r_iconst hk (dk_at D_Acc_shiftRight 11 rfl) ?_
    refine r_istore_n (i := 3) (ls' := [_, _, _, _]) hk (dk_at D_Acc_shiftRight 12 rfl) rfl rfl rfl rfl ?_
    refine r_in h5 ?_
    exact loop 0 (by omega) _ _ rfl ext_0 (fun m _ => rfl)
  · obtain rfl : b = 0 := by omega
    refine r_iconst hk (dk_at D_Acc_shiftRight 2 rfl) ?_
    refine r_goto (t := 16) hk (dk_at D_Acc_shiftRight 3 rfl) (by decide) ?_
    refine r_istore_n (i := 2) (ls' := [_, _, _, _]) hk (dk_at D_Acc_shiftRight 10 rfl) rfl rfl rfl rfl ?_
    refine r_iconst hk (dk_at D_Acc_shiftRight 11 rfl) ?_
    refine r_istore_n (i := 3) (ls' := [_, _, _, _]) hk (dk_at D_Acc_shiftRight 12 rfl) rfl rfl rfl rfl ?_
    refine r_in h5 ?_
    exact loop 0 (by omega) _ _ rfl ext_0 (fun m _ => rfl)
theorem c_Acc_round (G : Gt) {ad : Ix → Nat} {w : Wt} {A : Nat} {mn ov : Bool} (hA : w (4, 0) = some (ac ad mn ov)) (h5 : w (5, 0) = some (aa A)) (hlt : A < 10 ^ 19) : Mt G y_Acc_round w_Acc_round 0 0 0 [.ref (ad (4, 0))] ad w (ex none ad (up w (5, 0) (some (aa (A + 1))))) noT := by
  refine Mt.to [some (.ref (ad (4, 0))), none] (fun K hk hR hin => ?_)
  have loop : ∀ n : Nat, n ≤ 19 → ∀ (k : Int) (f : Nat → Value), k = (n : Int) → (A + 1) / 10 ^ n = A / 10 ^ n + 1 → (∀ m, m < n → f m = dg (A + 1) m) → (∀ m, n ≤ m → f m = dg A m) → V G K 2 (QE G K (ex none ad (up w (5, 0) (some (aa (A + 1))))) noT 0 0) 0 0 2 [some (.ref (ad (4, 0))), some (.int (i32 k))] [] ad (up w (5, 0) (some (.inr (0, 20, f)))) := by
    refine nup 19 (fun n hn ih k f hkk he hf hg => ?_)
    have hq := dgt_step A n
    have hd := dgt_lt A n
    have hq3 := dgt_step (A + 1) n
    have hd3 := dgt_lt (A + 1) n
    refine r_aload_n (i := 0) hk (dk_at D_Acc_round 2 rfl) rfl rfl ?_
    refine r_get hk fl_Acc_9 (dk_at D_Acc_round 3 rfl) ?_ (hw := (up_n h45).trans hA)
    refine r_iload_n (i := 1) hk (dk_at D_Acc_round 4 rfl) rfl rfl ?_
    refine r_iaload (ix := n) hk (dk_at D_Acc_round 5 rfl) ?_ (hw := up_s)
    refine r_top (hg n (Nat.le_refl _)) ?_
    refine r_bipush hk (dk_at D_Acc_round 6 rfl) (by decide) ?_
    refine r_icmp_ne (t := 26) hk (dk_at D_Acc_round 7 rfl) (by decide) (by omega) (by omega) (fun c_10 => ?_) (fun c_10 => ?_)
    · refine r_aload_n (i := 0) hk (dk_at D_Acc_round 15 rfl) rfl rfl ?_
      refine r_get hk fl_Acc_9 (dk_at D_Acc_round 16 rfl) ?_ (hw := (up_n h45).trans hA)
      refine r_iload_n (i := 1) hk (dk_at D_Acc_round 17 rfl) rfl rfl ?_
      refine r_dup2 hk (dk_at D_Acc_round 18 rfl) rfl rfl ?_
      refine r_iaload (ix := n) hk (dk_at D_Acc_round 19 rfl) ?_ (hw := up_s)
      refine r_top (hg n (Nat.le_refl _)) ?_
      refine r_iconst hk (dk_at D_Acc_round 20 rfl) ?_
      refine r_iadd hk (dk_at D_Acc_round 21 rfl) ?_
      refine r_iastoreU (ix := n) hk (dk_at D_Acc_round 22 rfl) ?_
      refine r_arr (g := dg (A + 1)) (fun m hm => ?_) ?_
      · by_cases h : m < n + 1
        · exact ext_s hf (dg_eq (by omega)) m h
        · rw [updV_n (by omega), hg m (by omega)]
          have e : (A + 1) / 10 ^ (n + 1) = A / 10 ^ (n + 1) := by omega
          have e2 : ∀ B, dgt B m = dgt (B / 10 ^ (n + 1)) (m - (n + 1)) := fun B => by rw [dgt_div]; congr 1; omega
          exact dg_eq (by rw [e2 A, e2 (A + 1), e])
      exact r_vret hk (dk_at D_Acc_round 23 rfl) ex.rf
    · have hn19 : n < 19 := by
        by_cases h : n = 19
        · subst h
          have : dgt A 19 = 0 := dgt_ge hlt
          omega
        · omega
      refine r_aload_n (i := 0) hk (dk_at D_Acc_round 8 rfl) rfl rfl ?_
      refine r_get hk fl_Acc_9 (dk_at D_Acc_round 9 rfl) ?_ (hw := (up_n h45).trans hA)
      refine r_iload_n (i := 1) hk (dk_at D_Acc_round 10 rfl) rfl rfl ?_
      refine r_iconst hk (dk_at D_Acc_round 11 rfl) ?_
      refine r_iastoreU (ix := n) hk (dk_at D_Acc_round 12 rfl) ?_
      refine r_iinc (i := 1) (ls' := [_, _]) hk (dk_at D_Acc_round 13 rfl) rfl rfl rfl rfl ?_
      refine r_goto (t := 2) hk (dk_at D_Acc_round 14 rfl) (by decide) ?_
      exact ih hn19 _ _ (by omega) (by omega) (ext_s hf (dg_eq (by omega))) (fun m hm => by rw [updV_n (by omega)]; exact hg m (by omega))
  refine r_iconst hk (dk_at D_Acc_round 0 rfl) ?_
  refine r_istore_n (i := 1) (ls' := [_, _]) hk (dk_at D_Acc_round 1 rfl) rfl rfl rfl rfl ?_
  refine r_in h5 ?_
  exact loop 0 (by omega) _ _ rfl (by rw [Nat.pow_zero, Nat.div_one, Nat.div_one]) ext_0 (fun m _ => rfl)
