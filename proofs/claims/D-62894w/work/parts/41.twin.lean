/-! the twin: lookUp, branches, doWrite -/
theorem twV_t {f : Nat → Nat} (h : vld f = true) : twV f = (val f : Int) := if_pos h
theorem twV_f {f : Nat → Nat} (h : vld f = false) : twV f = -1 := if_neg (by rw [h]; decide)
theorem twV_r (f : Nat → Nat) : -1 ≤ twV f ∧ twV f < 10000000000 := by
  have := val_lt f
  unfold twV
  split <;> omega
theorem sad_hl {A a : Nat} (ha : a < 10000) : sad A a / 10 ^ 10 = A / 10 ^ 10 ∧ sad A a % 10 ^ 10 = sad (A % 10 ^ 10) a := by unfold sad; omega
theorem c_Mod_lookUp (G : Gt) {w0 w : Wt} {ad : Ix → Nat} {cd : Int} {dv : Nat} {mn : Bool} {dm : Bool} {ov : Bool} {nx : Nat} {fl : Int} {t : Nat} {qn : Nat} {on : Nat} {m : Nat} {fu : Bool} {c : Nat → Nat → Nat} {g : Nat → Bool} {q : Nat → Nat × Bool} {o : Nat → Nat × Bool} {ln : Nat → Ln} {r : Nat → Bool} {p : Nat → Int} {hd : Nat → Bool} {at_ : Nat → Int} {wr : Nat → Int} {A : Nat} {s : Nat} (h : TX w0 ad w cd (((A / 10 ^ 10 : Nat) : Int)) (((A % 10 ^ 10 : Nat) : Int)) (((dv : Nat) : Int)) mn dm ov (((nx : Nat) : Int)) fl t qn on m fu c g q o ln r p hd at_ wr) (hc : ∀ a k, c a k < 128) (hdv : dv < 10 ^ 10) (hs : s < 200) (hnx : nx < 200) (ht : t < 1000000000000) {R : Nat × Int × Nat} (hRR : lk c dv (50 - s % 50) s t false = R) : Mt G y_Mod_lookUp w_Mod_lookUp 2 0 0 [.ref (ad (50, 0)), .int (i32 s), .int (i32 (nx : Nat))] ad w (fun rv ad' w' => rv = some (.int (i32 (b2i (decide (R.2.1 = -1))))) ∧ ad' = ad ∧ TX w0 ad w' cd ((((lkA R A) / 10 ^ 10 : Nat) : Int)) ((((lkA R A) % 10 ^ 10 : Nat) : Int)) (((dv : Nat) : Int)) mn dm ov (((nx : Nat) : Int)) (if R.2.1 = -1 then fl else R.2.1) R.1 qn on m fu c g q o ln r p hd at_ wr) noT := by
  refine Mt.to [some (.ref (ad (50, 0))), some (.int (i32 s)), some (.int (i32 (nx : Nat))), none, none, none, none] (fun K hk hR hin => ?_)
  have loop : ∀ n : Nat, ∀ (a t : Nat) (b : Bool) (w : Wt) (x y : Int) (z5 z6 : Option Value), a + n = s - s % 50 + 50 → s ≤ a → b = decide (s < a) → t < 1000000001000 - n → TX w0 ad w cd (((A / 10 ^ 10 : Nat) : Int)) (((A % 10 ^ 10 : Nat) : Int)) (((dv : Nat) : Int)) mn dm ov (((nx : Nat) : Int)) fl t qn on m fu c g q o ln r p hd at_ wr → lk c dv n a t b = R → x = ((s - s % 50 + 50 : Nat) : Int) → y = (a : Int) → V G K 7 (QE G K (fun rv ad' w' => rv = some (.int (i32 (b2i (decide (R.2.1 = -1))))) ∧ ad' = ad ∧ TX w0 ad w' cd ((((lkA R A) / 10 ^ 10 : Nat) : Int)) ((((lkA R A) % 10 ^ 10 : Nat) : Int)) (((dv : Nat) : Int)) mn dm ov (((nx : Nat) : Int)) (if R.2.1 = -1 then fl else R.2.1) R.1 qn on m fu c g q o ln r p hd at_ wr) noT 0 0) 0 0 14 [some (.ref (ad (50, 0))), some (.int (i32 s)), some (.int (i32 (nx : Nat))), some (.int (i32 x)), some (.int (i32 y)), z5, z6] [] ad w := by
    intro n
    induction n with
    | zero =>
      intro a t b w x y z5 z6 han has hb ht h hl hx hy
      have hR1 : R = (t, 5, 0) := hl.symm
      have hob := h.ob_
      rw [hR1]
      refine r_iload (i := 4) hk (dk_at D_Mod_lookUp 10 rfl) rfl ?_
      refine r_iload_n (i := 3) hk (dk_at D_Mod_lookUp 11 rfl) rfl rfl ?_
      refine r_icmp_ge (t := 112) hk (dk_at D_Mod_lookUp 12 rfl) (by decide) (by omega) (by omega) (fun c_17 => ?_) (fun c_17 => ?_)
      · refine r_aload_n (i := 0) hk (dk_at D_Mod_lookUp 63 rfl) rfl rfl ?_
        refine r_iconst hk (dk_at D_Mod_lookUp 64 rfl) ?_
        refine r_iload_n (i := 2) hk (dk_at D_Mod_lookUp 65 rfl) rfl rfl ?_
        refine r_callVq hk hR m_Mod_stop s_Mod_stop ml_Mod_134 (dk_at D_Mod_lookUp 66 rfl) (c_Mod_stop G (z := 5) (y := ((nx : Nat) : Int)) h) (fun w h => ?_) (i := (50, 0)) (hw := hob)
        exact r_bret (b := false) hk (dk_at D_Mod_lookUp 67 rfl) ⟨rfl, rfl, h⟩
      · exact absurd c_17 (by omega)
    | succ n ih =>
      intro a t b w x y z5 z6 han has hb ht h hl hx hy
      subst hy
      have ha : a < 200 := by omega
      have mid : ∀ w : Wt, TX w0 ad w cd (((A / 10 ^ 10 : Nat) : Int)) (((A % 10 ^ 10 : Nat) : Int)) (((dv : Nat) : Int)) mn dm ov (((nx : Nat) : Int)) fl (t + cond b 1 0) qn on m fu c g q o ln r p hd at_ wr → V G K 7 (QE G K (fun rv ad' w' => rv = some (.int (i32 (b2i (decide (R.2.1 = -1))))) ∧ ad' = ad ∧ TX w0 ad w' cd ((((lkA R A) / 10 ^ 10 : Nat) : Int)) ((((lkA R A) % 10 ^ 10 : Nat) : Int)) (((dv : Nat) : Int)) mn dm ov (((nx : Nat) : Int)) (if R.2.1 = -1 then fl else R.2.1) R.1 qn on m fu c g q o ln r p hd at_ wr) noT 0 0) 0 0 36 [some (.ref (ad (50, 0))), some (.int (i32 s)), some (.int (i32 (nx : Nat))), some (.int (i32 x)), some (.int (i32 (a : Nat))), z5, z6] [] ad w := by
        intro w h
        have hob := h.ob_
        have hvr := twV_r (c a)
        refine r_aload_n (i := 0) hk (dk_at D_Mod_lookUp 22 rfl) rfl rfl ?_
        refine r_iload (i := 4) hk (dk_at D_Mod_lookUp 23 rfl) rfl ?_
        refine r_callV hk hR m_Mod_value s_Mod_value ml_Mod_83 (dk_at D_Mod_lookUp 24 rfl) (c_Mod_value G (a := a) h ha hc) ?_ (i := (50, 0)) (hw := hob)
        refine r_lstore (i := 5) (ls' := [_, _, _, _, _, _, _]) hk (dk_at D_Mod_lookUp 25 rfl) rfl rfl rfl ?_
        refine r_lload (i := 5) hk (dk_at D_Mod_lookUp 26 rfl) rfl ?_
        refine r_lconst (z := 0) hk (dk_at D_Mod_lookUp 27 rfl) rfl ?_
        refine r_lc_ge (t := 58) hk (dk_at D_Mod_lookUp 28 rfl) (dk_at D_Mod_lookUp 29 rfl) (by decide) (by omega) (by omega) (fun c_48 => ?_) (fun c_48 => ?_)
        · have hv1 : vld (c a) = true := by
            cases e : vld (c a) with
            | true => rfl
            | false => rw [twV_f e] at c_48; omega
          rw [twV_t hv1]
          have hvl := val_lt (c a)
          refine r_lload (i := 5) hk (dk_at D_Mod_lookUp 35 rfl) rfl ?_
          refine r_aload_n (i := 0) hk (dk_at D_Mod_lookUp 36 rfl) rfl rfl ?_
          refine r_get hk fl_Mod_140 (dk_at D_Mod_lookUp 37 rfl) ?_ (hw := hob)
          refine r_lc_ge (t := 71) hk (dk_at D_Mod_lookUp 38 rfl) (dk_at D_Mod_lookUp 39 rfl) (by decide) (by omega) (by omega) (fun c_65 => ?_) (fun c_65 => ?_)
          · have hR1 : R = (t + cond b 1 0, -1, a) := by rw [← hl]; unfold lk; rw [if_pos hv1, if_neg (by omega)]
            rw [hR1]
            obtain ⟨sa1, sa2⟩ := sad_hl (A := A) (a := a) (by omega)
            have hLl : A % 10 ^ 10 < 10 ^ 10 := Nat.mod_lt _ (by decide)
            refine r_aload_n (i := 0) hk (dk_at D_Mod_lookUp 41 rfl) rfl rfl ?_
            refine r_aload_n (i := 0) hk (dk_at D_Mod_lookUp 42 rfl) rfl rfl ?_
            refine r_get hk fl_Mod_115 (dk_at D_Mod_lookUp 43 rfl) ?_ (hw := hob)
            refine r_ldc2 hk kl_Mod_164 (dk_at D_Mod_lookUp 44 rfl) ?_
            refine r_lrem hk (dk_at D_Mod_lookUp 45 rfl) (by omega) (by omega) ?_
            refine r_ldc2 hk kl_Mod_164 (dk_at D_Mod_lookUp 46 rfl) ?_
            refine r_iload (i := 4) hk (dk_at D_Mod_lookUp 47 rfl) rfl ?_
            refine r_i2l hk (dk_at D_Mod_lookUp 48 rfl) (by omega) ?_
            refine r_lmul hk (dk_at D_Mod_lookUp 49 rfl) ?_
            refine r_ladd hk (dk_at D_Mod_lookUp 50 rfl) ?_
            refine r_aload_n (i := 0) hk (dk_at D_Mod_lookUp 51 rfl) rfl rfl ?_
            refine r_get hk fl_Mod_115 (dk_at D_Mod_lookUp 52 rfl) ?_ (hw := hob)
            refine r_ldc2 hk kl_Mod_166 (dk_at D_Mod_lookUp 53 rfl) ?_
            refine r_ldiv hk (dk_at D_Mod_lookUp 54 rfl) (by omega) (by omega) ?_
            refine r_ldc2 hk kl_Mod_166 (dk_at D_Mod_lookUp 55 rfl) ?_
            refine r_lmul hk (dk_at D_Mod_lookUp 56 rfl) ?_
            refine r_ladd hk (dk_at D_Mod_lookUp 57 rfl) ?_
            refine r_topl (x' := ((sad (A % 10 ^ 10) a : Nat) : Int)) (by unfold sad; omega) ?_
            refine r_put (fs' := [_, _, _, _, _, _, _, _, _, _, _, _, _, _, _, _, _, _, _, _, _, _, _, _, _, _, _, _]) hk fl_Mod_115 ft_Mod_4 (dk_at D_Mod_lookUp 58 rfl) ?_ (hw := hob)
            refine r_iconst hk (dk_at D_Mod_lookUp 59 rfl) ?_
            exact r_bret (b := true) hk (dk_at D_Mod_lookUp 60 rfl) ⟨rfl, rfl, by have h9 := h.sc (L' := ((sad (A % 10 ^ 10) a : Nat) : Int)) (U' := ((A / 10 ^ 10 : Nat) : Int)) (cd' := cd) (mn' := mn) (dv' := ((dv : Nat) : Int)) (dm' := dm) (ov' := ov) (nx' := ((nx : Nat) : Int)) (fl' := fl) (t' := t + cond b 1 0) (fu' := fu); show TX _ _ _ _ ((sad A a / 10 ^ 10 : Nat) : Int) ((sad A a % 10 ^ 10 : Nat) : Int) _ _ _ _ _ _ _ _ _ _ _ _ _ _ _ _ _ _ _ _ _; rw [sa1, sa2]; exact h9⟩
          · refine r_goto (t := 106) hk (dk_at D_Mod_lookUp 40 rfl) (by decide) ?_
            refine r_iinc (i := 4) (ls' := [_, _, _, _, _, _, _]) hk (dk_at D_Mod_lookUp 61 rfl) rfl rfl rfl rfl ?_
            refine r_goto (t := 14) hk (dk_at D_Mod_lookUp 62 rfl) (by decide) ?_
            refine ih (a + 1) (t + cond b 1 0) true w _ _ _ _ (by omega) (by omega) (decide_eq_true (by omega)).symm (by cases b <;> simp only [cond_true, cond_false] <;> omega) h ?_ hx (by omega)
            rw [← hl]
            conv => rhs; unfold lk
            rw [if_pos hv1, if_pos (by omega)]
        · have hnv : vld (c a) = false := by
            cases e : vld (c a) with
            | false => rfl
            | true => rw [twV_t e] at c_48; omega
          have hR1 : R = (t + cond b 1 0, 1, 0) := by rw [← hl]; unfold lk; rw [if_neg (by rw [hnv]; decide)]
          rw [hR1]
          refine r_aload_n (i := 0) hk (dk_at D_Mod_lookUp 30 rfl) rfl rfl ?_
          refine r_iconst hk (dk_at D_Mod_lookUp 31 rfl) ?_
          refine r_iload_n (i := 2) hk (dk_at D_Mod_lookUp 32 rfl) rfl rfl ?_
          refine r_callVq hk hR m_Mod_stop s_Mod_stop ml_Mod_134 (dk_at D_Mod_lookUp 33 rfl) (c_Mod_stop G (z := 1) (y := ((nx : Nat) : Int)) h) (fun w h => ?_) (i := (50, 0)) (hw := hob)
          exact r_bret (b := false) hk (dk_at D_Mod_lookUp 34 rfl) ⟨rfl, rfl, h⟩
      refine r_iload (i := 4) hk (dk_at D_Mod_lookUp 10 rfl) rfl ?_
      refine r_iload_n (i := 3) hk (dk_at D_Mod_lookUp 11 rfl) rfl rfl ?_
      refine r_icmp_ge (t := 112) hk (dk_at D_Mod_lookUp 12 rfl) (by decide) (by omega) (by omega) (fun c_17 => ?_) (fun c_17 => ?_)
      · exact absurd c_17 (by omega)
      · refine r_iload (i := 4) hk (dk_at D_Mod_lookUp 13 rfl) rfl ?_
        refine r_iload_n (i := 1) hk (dk_at D_Mod_lookUp 14 rfl) rfl rfl ?_
        refine r_icmp_le (t := 36) hk (dk_at D_Mod_lookUp 15 rfl) (by decide) (by omega) (by omega) (fun c_23 => ?_) (fun c_23 => ?_)
        · have eb : b = false := by rw [hb]; exact decide_eq_false (by omega)
          subst eb
          exact mid w h
        · have hob := h.ob_
          have eb : b = true := by rw [hb]; exact decide_eq_true (by omega)
          subst eb
          refine r_aload_n (i := 0) hk (dk_at D_Mod_lookUp 16 rfl) rfl rfl ?_
          refine r_dup hk (dk_at D_Mod_lookUp 17 rfl) rfl ?_
          refine r_get hk fl_Mod_99 (dk_at D_Mod_lookUp 18 rfl) ?_ (hw := hob)
          refine r_lconst (z := 1) hk (dk_at D_Mod_lookUp 19 rfl) rfl ?_
          refine r_ladd hk (dk_at D_Mod_lookUp 20 rfl) ?_
          refine r_topl (x' := ((t + 1 : Nat) : Int)) (by omega) ?_
          refine r_put (fs' := [_, _, _, _, _, _, _, _, _, _, _, _, _, _, _, _, _, _, _, _, _, _, _, _, _, _, _, _]) hk fl_Mod_99 ft_Mod_11 (dk_at D_Mod_lookUp 21 rfl) ?_ (hw := hob)
          exact mid _ (h.sc (t' := t + 1))
  refine r_iload_n (i := 1) hk (dk_at D_Mod_lookUp 0 rfl) rfl rfl ?_
  refine r_bipush hk (dk_at D_Mod_lookUp 1 rfl) (by decide) ?_
  refine r_idiv hk (dk_at D_Mod_lookUp 2 rfl) (by omega) (by omega) ?_
  refine r_bipush hk (dk_at D_Mod_lookUp 3 rfl) (by decide) ?_
  refine r_imul hk (dk_at D_Mod_lookUp 4 rfl) ?_
  refine r_bipush hk (dk_at D_Mod_lookUp 5 rfl) (by decide) ?_
  refine r_iadd hk (dk_at D_Mod_lookUp 6 rfl) ?_
  refine r_istore_n (i := 3) (ls' := [_, _, _, _, _, _, _]) hk (dk_at D_Mod_lookUp 7 rfl) rfl rfl rfl rfl ?_
  refine r_iload_n (i := 1) hk (dk_at D_Mod_lookUp 8 rfl) rfl rfl ?_
  refine r_istore (i := 4) (ls' := [_, _, _, _, _, _, _]) hk (dk_at D_Mod_lookUp 9 rfl) rfl rfl rfl ?_
  exact loop (50 - s % 50) s t false w _ _ _ _ (by omega) (Nat.le_refl _) (decide_eq_false (by omega)).symm (by omega) h hRR (by omega) rfl
