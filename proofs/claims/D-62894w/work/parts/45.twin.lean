/-! the twin: doRead -/
def TS (w0 : Wt) (ad : Ix → Nat) (w : Wt) (cd : Int) (fu : Bool) (hd : Nat → Bool) (at_ wr : Nat → Int) (σ : St) : Prop := match σ with
  | (c, g, t, A, mn, ov, dv, dm, nx, fl, q, qn, o, on, ln, m, r, p, fc) => TX w0 ad w cd (((A / 10 ^ 10 : Nat) : Int)) (((A % 10 ^ 10 : Nat) : Int)) (((dv : Nat) : Int)) mn dm ov (((nx : Nat) : Int)) fl t qn on m fu c g q o ln r p hd at_ wr
def sgn_eq (v : Nat) (sg : Bool) : sgn (v, sg) = cond sg (-(v : Int)) v := rfl
theorem mRd_n : ∀ n : Nat, n < 100 → mRd (n : Int) = ((kn n).elim false fun k => acs k && (!(Nat.beq k 8) && !(Nat.beq k 9))) := by decide
theorem mWr_n : ∀ n : Nat, n < 100 → mWr (n : Int) = ((kn n).elim false fun k => Nat.beq k 8 || Nat.beq k 9) := by decide
theorem mSh_n : ∀ n : Nat, n < 100 → mSh (n : Int) = ((kn n).elim false fun k => Nat.beq k 11) := by decide
theorem mOp_n : ∀ n : Nat, n < 100 → mOp (n : Int) = (kn n).isSome := by decide
theorem ops2 : ∀ n : Nat, n < 100 → (kn n == some 2 || kn n == some 3) = true → n ≠ 30 ∧ n ≠ 35 ∧ n ≠ 31 ∧ n ≠ 14 ∧ n ≠ 19 ∧ n ≠ 70 ∧ n ≠ 71 ∧ n ≠ 69 ∧ n ≠ 84 ∧ mRd (n : Int) = true := by decide
theorem ops4 : ∀ n, n < 100 → kn n = some 4 → n = 69 := by decide
theorem ops5 : ∀ n, n < 100 → kn n = some 5 → n = 19 := by decide
theorem ops6 : ∀ n, n < 100 → kn n = some 6 → n = 14 := by decide
theorem ops7 : ∀ n, n < 100 → kn n = some 7 → n = 84 := by decide
theorem ops10 : ∀ n, n < 100 → kn n = some 10 → n = 71 := by decide
theorem kn71 : kn 71 = some 10 := by decide
theorem kn14 : kn 14 = some 6 := by decide
theorem kn84 : kn 84 = some 7 := by decide
theorem mFx_le (op d : Nat) : mFx op d ≤ 20 := by unfold mFx; (repeat' split) <;> omega
theorem mFx2 {op d : Nat} (h : op < 100) (h2 : (kn op == some 2 || kn op == some 3) = true) : mFx op d = 2 := by
  obtain ⟨a1, a2, a3, a4, a5, a6, a7, a8, a9, a10⟩ := ops2 op h h2
  unfold mFx
  rw [if_neg (by omega), if_neg (by omega), if_neg (by omega), if_neg (by omega), if_neg (fun z => by rcases z with z | z | z; omega; omega; rw [a10] at z; cases z)]
theorem wrk_a {op k v : Nat} {sg : Bool} {c : Nat → Nat → Nat} {g : Nat → Bool} {t : Nat} {A : Nat} {mn : Bool} {ov : Bool} {dv : Nat} {dm : Bool} {nx : Nat} {fl : Int} {q : Nat → Nat × Bool} {qn : Nat} {o : Nat → Nat × Bool} {on : Nat} {ln : Nat → Int × Int × Int × Int} {m : Nat} {r : Nat → Bool} {p : Nat → Int} {fc : Nat} (h : k = 2 ∨ k = 3) : wrk k op v sg (c, g, t, A, mn, ov, dv, dm, nx, fl, q, qn, o, on, ln, m, r, p, fc) = ((c, g, t + 2, adA (wkA0 k A) (v * 10 ^ wkP op) (wkS op sg == wkM0 k mn), adM (wkA0 k A) (v * 10 ^ wkP op) (wkM0 k mn) (wkS op sg == wkM0 k mn), adO (wkA0 k A) (v * 10 ^ wkP op) ov (wkS op sg == wkM0 k mn), v, sg, nx, fl, q, qn, o, on, ln, m, r, p, fc), -1) := if_pos h
theorem wrk_m {op v : Nat} {sg : Bool} {c : Nat → Nat → Nat} {g : Nat → Bool} {t : Nat} {A : Nat} {mn : Bool} {ov : Bool} {dv : Nat} {dm : Bool} {nx : Nat} {fl : Int} {q : Nat → Nat × Bool} {qn : Nat} {o : Nat → Nat × Bool} {on : Nat} {ln : Nat → Int × Int × Int × Int} {m : Nat} {r : Nat → Bool} {p : Nat → Int} {fc : Nat} : wrk 5 op v sg (c, g, t, A, mn, ov, dv, dm, nx, fl, q, qn, o, on, ln, m, r, p, fc) = ((c, g, t + (20 + 2 * ds (A / 10 ^ 10) 10), A / 10 ^ 10 * v + A % 10 ^ 10, (mn ^^ sg), ov, v, sg, nx, fl, q, qn, o, on, ln, m, r, p, fc), -1) := rfl
theorem wrk_d1 {op v : Nat} {sg : Bool} {c : Nat → Nat → Nat} {g : Nat → Bool} {t : Nat} {A : Nat} {mn : Bool} {ov : Bool} {dv : Nat} {dm : Bool} {nx : Nat} {fl : Int} {q : Nat → Nat × Bool} {qn : Nat} {o : Nat → Nat × Bool} {on : Nat} {ln : Nat → Int × Int × Int × Int} {m : Nat} {r : Nat → Bool} {p : Nat → Int} {fc : Nat} (h : A / 10 ^ 10 < v) : wrk 6 op v sg (c, g, t, A, mn, ov, dv, dm, nx, fl, q, qn, o, on, ln, m, r, p, fc) = ((c, g, t + (20 + 2 * ds (A / v) 10), A % v * 10 ^ 10 + A / v, (mn ^^ sg), ov, v, sg, nx, fl, q, qn, o, on, ln, m, r, p, fc), -1) := if_pos h
theorem wrk_d0 {op v : Nat} {sg : Bool} {c : Nat → Nat → Nat} {g : Nat → Bool} {t : Nat} {A : Nat} {mn : Bool} {ov : Bool} {dv : Nat} {dm : Bool} {nx : Nat} {fl : Int} {q : Nat → Nat × Bool} {qn : Nat} {o : Nat → Nat × Bool} {on : Nat} {ln : Nat → Int × Int × Int × Int} {m : Nat} {r : Nat → Bool} {p : Nat → Int} {fc : Nat} (h : ¬ A / 10 ^ 10 < v) : wrk 6 op v sg (c, g, t, A, mn, ov, dv, dm, nx, fl, q, qn, o, on, ln, m, r, p, fc) = ((c, g, t, A, mn, true, dv, dm, nx, fl, q, qn, o, on, ln, m, r, p, fc), 3) := if_neg h
theorem wrk_p1 {op v : Nat} {sg : Bool} {c : Nat → Nat → Nat} {g : Nat → Bool} {t : Nat} {A : Nat} {mn : Bool} {ov : Bool} {dv : Nat} {dm : Bool} {nx : Nat} {fl : Int} {q : Nat → Nat × Bool} {qn : Nat} {o : Nat → Nat × Bool} {on : Nat} {ln : Nat → Int × Int × Int × Int} {m : Nat} {r : Nat → Bool} {p : Nat → Int} {fc : Nat} (h : on = 40) : wrk 10 op v sg (c, g, t, A, mn, ov, dv, dm, nx, fl, q, qn, o, on, ln, m, r, p, fc) = ((c, g, t, A, mn, ov, dv, dm, nx, fl, q, qn, o, on, ln, m, r, p, fc), 4) := if_pos h
theorem wrk_p0 {op v : Nat} {sg : Bool} {c : Nat → Nat → Nat} {g : Nat → Bool} {t : Nat} {A : Nat} {mn : Bool} {ov : Bool} {dv : Nat} {dm : Bool} {nx : Nat} {fl : Int} {q : Nat → Nat × Bool} {qn : Nat} {o : Nat → Nat × Bool} {on : Nat} {ln : Nat → Int × Int × Int × Int} {m : Nat} {r : Nat → Bool} {p : Nat → Int} {fc : Nat} (h : on ≠ 40) : wrk 10 op v sg (c, g, t, A, mn, ov, dv, dm, nx, fl, q, qn, o, on, ln, m, r, p, fc) = ((c, g, t + 10, A, mn, ov, v, sg, nx, fl, q, qn, fu_ o on (v, sg), on + 1, ln, m, r, p, fc), -1) := if_neg h
theorem wrk_l {op v : Nat} {sg : Bool} {c : Nat → Nat → Nat} {g : Nat → Bool} {t : Nat} {A : Nat} {mn : Bool} {ov : Bool} {dv : Nat} {dm : Bool} {nx : Nat} {fl : Int} {q : Nat → Nat × Bool} {qn : Nat} {o : Nat → Nat × Bool} {on : Nat} {ln : Nat → Int × Int × Int × Int} {m : Nat} {r : Nat → Bool} {p : Nat → Int} {fc : Nat} : wrk 4 op v sg (c, g, t, A, mn, ov, dv, dm, nx, fl, q, qn, o, on, ln, m, r, p, fc) = ((c, g, t, A, mn, ov, v, sg, nx, fl, q, qn, o, on, ln, m, r, p, fc), -1) := rfl
theorem c_Mod_doRead (G : Gt) {w0 w : Wt} {ad : Ix → Nat} {cd : Int} {dv : Nat} {mn : Bool} {dm : Bool} {ov : Bool} {nx : Nat} {fl : Int} {t : Nat} {qn : Nat} {on : Nat} {m : Nat} {fu : Bool} {c : Nat → Nat → Nat} {g : Nat → Bool} {q : Nat → Nat × Bool} {o : Nat → Nat × Bool} {ln : Nat → Ln} {r : Nat → Bool} {p : Nat → Int} {hd : Nat → Bool} {at_ : Nat → Int} {wr : Nat → Int} {fc : Nat} {A : Nat} {k op d v : Nat} {sg : Bool} (h : TX w0 ad w cd (((A / 10 ^ 10 : Nat) : Int)) (((A % 10 ^ 10 : Nat) : Int)) (((dv : Nat) : Int)) mn dm ov (((nx : Nat) : Int)) (-1) t qn on m fu c g q o ln r p hd at_ wr) (hA : A < 10 ^ 20) (hv : v < 10 ^ 10) (hon : on ≤ 40) (hop : kn op = some k) (hd9 : d < 10000) (ht : t < 1000000000000) (hk6 : k = 2 ∨ k = 3 ∨ k = 4 ∨ k = 5 ∨ k = 6 ∨ k = 10) : Mt G y_Mod_doRead w_Mod_doRead 2 0 0 [.ref (ad (50, 0)), .int (i32 op), .int (i32 d), .long (i64 v), .int (i32 (b2i sg)), .int (i32 (nx : Nat))] ad w (fun rv ad' w' => rv = some (.int (i32 (b2i (decide ((wrk k op v sg (c, g, t, A, mn, ov, dv, dm, nx, -1, q, qn, o, on, ln, m, r, p, fc)).2 = -1))))) ∧ ad' = ad ∧ TS w0 ad w' cd fu hd at_ wr (setFl (wrk k op v sg (c, g, t, A, mn, ov, dv, dm, nx, -1, q, qn, o, on, ln, m, r, p, fc)).2 (wrk k op v sg (c, g, t, A, mn, ov, dv, dm, nx, -1, q, qn, o, on, ln, m, r, p, fc)).1)) noT := by
  have hop2 := (kn_lt hop).2
  have hU : A / 10 ^ 10 < 10 ^ 10 := by omega
  refine Mt.to [some (.ref (ad (50, 0))), some (.int (i32 op)), some (.int (i32 d)), some (.long (i64 v)), none, some (.int (i32 (b2i sg))), some (.int (i32 (nx : Nat)))] (fun K hk hR hin => ?_)
  have n84 : op ≠ 84 := fun z => by rw [z, kn84] at hop; cases hop; omega
  have fin : ∀ (w : Wt), (wrk k op v sg (c, g, t, A, mn, ov, dv, dm, nx, -1, q, qn, o, on, ln, m, r, p, fc)).2 = -1 → TS w0 ad w cd fu hd at_ wr (setFl (-1) (wrk k op v sg (c, g, t, A, mn, ov, dv, dm, nx, -1, q, qn, o, on, ln, m, r, p, fc)).1) → V G K 7 (QE G K (fun rv ad' w' => rv = some (.int (i32 (b2i (decide ((wrk k op v sg (c, g, t, A, mn, ov, dv, dm, nx, -1, q, qn, o, on, ln, m, r, p, fc)).2 = -1))))) ∧ ad' = ad ∧ TS w0 ad w' cd fu hd at_ wr (setFl (wrk k op v sg (c, g, t, A, mn, ov, dv, dm, nx, -1, q, qn, o, on, ln, m, r, p, fc)).2 (wrk k op v sg (c, g, t, A, mn, ov, dv, dm, nx, -1, q, qn, o, on, ln, m, r, p, fc)).1)) noT 0 0) 0 0 214 [some (.ref (ad (50, 0))), some (.int (i32 op)), some (.int (i32 d)), some (.long (i64 v)), none, some (.int (i32 (b2i sg))), some (.int (i32 (nx : Nat)))] [] ad w := by
    intro w hy h
    refine r_iconst hk (dk_at D_Mod_doRead 118 rfl) ?_
    exact r_bret (b := true) hk (dk_at D_Mod_doRead 119 rfl) ⟨by rw [hy]; rfl, rfl, by rw [hy]; exact h⟩
  have hob := h.ob_
  have g65 : (k = 6 → A / 10 ^ 10 < v) → (k = 10 → on ≠ 40) → V G K 7 (QE G K (fun rv ad' w' => rv = some (.int (i32 (b2i (decide ((wrk k op v sg (c, g, t, A, mn, ov, dv, dm, nx, -1, q, qn, o, on, ln, m, r, p, fc)).2 = -1))))) ∧ ad' = ad ∧ TS w0 ad w' cd fu hd at_ wr (setFl (wrk k op v sg (c, g, t, A, mn, ov, dv, dm, nx, -1, q, qn, o, on, ln, m, r, p, fc)).2 (wrk k op v sg (c, g, t, A, mn, ov, dv, dm, nx, -1, q, qn, o, on, ln, m, r, p, fc)).1)) noT 0 0) 0 0 65 [some (.ref (ad (50, 0))), some (.int (i32 op)), some (.int (i32 d)), some (.long (i64 v)), none, some (.int (i32 (b2i sg))), some (.int (i32 (nx : Nat)))] [] ad w := by
    intro q6 q10
    have hFx := mFx_le op d
    refine r_in hob ?_
    refine r_aload_n (i := 0) hk (dk_at D_Mod_doRead 36 rfl) rfl rfl ?_
    refine r_lload_n (i := 3) hk (dk_at D_Mod_doRead 37 rfl) rfl rfl ?_
    refine r_put (fs' := [_, _, _, _, _, _, _, _, _, _, _, _, _, _, _, _, _, _, _, _, _, _, _, _, _, _, _, _]) hk fl_Mod_140 ft_Mod_5 (dk_at D_Mod_doRead 38 rfl) ?_ (hw := up_s)
    refine r_we up_up ?_
    refine r_aload_n (i := 0) hk (dk_at D_Mod_doRead 39 rfl) rfl rfl ?_
    refine r_iload (i := 5) hk (dk_at D_Mod_doRead 40 rfl) rfl ?_
    refine r_put (fs' := [_, _, _, _, _, _, _, _, _, _, _, _, _, _, _, _, _, _, _, _, _, _, _, _, _, _, _, _]) hk fl_Mod_143 ft_Mod_7 (dk_at D_Mod_doRead 41 rfl) ?_ (hn := b2i_n _) (hfit := b2i_fit _) (hw := up_s)
    refine r_we up_up ?_
    refine r_aload_n (i := 0) hk (dk_at D_Mod_doRead 42 rfl) rfl rfl ?_
    refine r_dup hk (dk_at D_Mod_doRead 43 rfl) rfl ?_
    refine r_get hk fl_Mod_99 (dk_at D_Mod_doRead 44 rfl) ?_ (hw := up_s)
    refine r_iload_n (i := 1) hk (dk_at D_Mod_doRead 45 rfl) rfl rfl ?_
    refine r_iload_n (i := 2) hk (dk_at D_Mod_doRead 46 rfl) rfl rfl ?_
    refine r_callS hk hR m_Mod_fixed s_Mod_fixed ml_Mod_146 (dk_at D_Mod_doRead 47 rfl) (c_Mod_fixed G (op := op) (d := d) (by omega) (by omega)) ?_
    refine r_i2l hk (dk_at D_Mod_doRead 48 rfl) (by omega) ?_
    refine r_ladd hk (dk_at D_Mod_doRead 49 rfl) ?_
    refine r_topl (x' := ((t + mFx op d : Nat) : Int)) (by omega) ?_
    refine r_put (fs' := [_, _, _, _, _, _, _, _, _, _, _, _, _, _, _, _, _, _, _, _, _, _, _, _, _, _, _, _]) hk fl_Mod_99 ft_Mod_11 (dk_at D_Mod_doRead 50 rfl) ?_ (hw := up_s)
    refine r_we up_up ?_
    refine r_gp (fun w => TX w0 ad w cd (((A / 10 ^ 10 : Nat) : Int)) (((A % 10 ^ 10 : Nat) : Int)) (((v : Nat) : Int)) mn sg ov (((nx : Nat) : Int)) (-1) (t + mFx op d) qn on m fu c g q o ln r p hd at_ wr) (h.sc (dv' := ((v : Nat) : Int)) (dm' := sg) (t' := t + mFx op d)) (fun w h => ?_)
    have hob := h.ob_
    rcases hk6 with e | e | e | e | e | e
    · subst e
      have eF : mFx op d = 2 := mFx2 hop2 (by rw [hop]; rfl)
      rw [eF] at h hob
      obtain ⟨a1, a2, a3, a4, a5, a6, a7, a8, a9, a10⟩ := ops2 op hop2 (by rw [hop]; rfl)
      refine r_iload_n (i := 1) hk (dk_at D_Mod_doRead 51 rfl) rfl rfl ?_
      refine r_bipush hk (dk_at D_Mod_doRead 52 rfl) (by decide) ?_
      refine r_icmp_ne (t := 130) hk (dk_at D_Mod_doRead 53 rfl) (by decide) (by omega) (by omega) (fun c_94 => ?_) (fun c_94 => ?_)
      · refine r_iload_n (i := 1) hk (dk_at D_Mod_doRead 72 rfl) rfl rfl ?_
        refine r_bipush hk (dk_at D_Mod_doRead 73 rfl) (by decide) ?_
        refine r_icmp_ne (t := 165) hk (dk_at D_Mod_doRead 74 rfl) (by decide) (by omega) (by omega) (fun c_133 => ?_) (fun c_133 => ?_)
        · refine r_iload_n (i := 1) hk (dk_at D_Mod_doRead 91 rfl) rfl rfl ?_
          refine r_bipush hk (dk_at D_Mod_doRead 92 rfl) (by decide) ?_
          refine r_icmp_ne (t := 200) hk (dk_at D_Mod_doRead 93 rfl) (by decide) (by omega) (by omega) (fun c_168 => ?_) (fun c_168 => ?_)
          · refine r_iload_n (i := 1) hk (dk_at D_Mod_doRead 110 rfl) rfl rfl ?_
            refine r_bipush hk (dk_at D_Mod_doRead 111 rfl) (by decide) ?_
            refine r_icmp_eq (t := 214) hk (dk_at D_Mod_doRead 112 rfl) (by decide) (by omega) (by omega) (fun c_203 => ?_) (fun c_203 => ?_)
            · exact absurd c_203 (by omega)
            · refine r_aload_n (i := 0) hk (dk_at D_Mod_doRead 113 rfl) rfl rfl ?_
              refine r_iload_n (i := 1) hk (dk_at D_Mod_doRead 114 rfl) rfl rfl ?_
              refine r_lload_n (i := 3) hk (dk_at D_Mod_doRead 115 rfl) rfl rfl ?_
              refine r_iload (i := 5) hk (dk_at D_Mod_doRead 116 rfl) rfl ?_
              refine r_callVqv hk hR m_Mod_sum s_Mod_sum ml_Mod_161 (dk_at D_Mod_doRead 117 rfl) (c_Mod_sum G (k := 2) (v := v) (sg := sg) h hA hv hop (Or.inl rfl)) (fun w h => ?_) (i := (50, 0)) (hw := hob)
              exact fin w (by rw [wrk_a (Or.inl rfl)]) (by rw [wrk_a (Or.inl rfl)]; exact h)
          · exact absurd c_168 (by omega)
        · exact absurd c_133 (by omega)
      · exact absurd c_94 (by omega)
    · subst e
      have eF : mFx op d = 2 := mFx2 hop2 (by rw [hop]; rfl)
      rw [eF] at h hob
      obtain ⟨a1, a2, a3, a4, a5, a6, a7, a8, a9, a10⟩ := ops2 op hop2 (by rw [hop]; rfl)
      refine r_iload_n (i := 1) hk (dk_at D_Mod_doRead 51 rfl) rfl rfl ?_
      refine r_bipush hk (dk_at D_Mod_doRead 52 rfl) (by decide) ?_
      refine r_icmp_ne (t := 130) hk (dk_at D_Mod_doRead 53 rfl) (by decide) (by omega) (by omega) (fun c_94 => ?_) (fun c_94 => ?_)
      · refine r_iload_n (i := 1) hk (dk_at D_Mod_doRead 72 rfl) rfl rfl ?_
        refine r_bipush hk (dk_at D_Mod_doRead 73 rfl) (by decide) ?_
        refine r_icmp_ne (t := 165) hk (dk_at D_Mod_doRead 74 rfl) (by decide) (by omega) (by omega) (fun c_133 => ?_) (fun c_133 => ?_)
        · refine r_iload_n (i := 1) hk (dk_at D_Mod_doRead 91 rfl) rfl rfl ?_
          refine r_bipush hk (dk_at D_Mod_doRead 92 rfl) (by decide) ?_
          refine r_icmp_ne (t := 200) hk (dk_at D_Mod_doRead 93 rfl) (by decide) (by omega) (by omega) (fun c_168 => ?_) (fun c_168 => ?_)
          · refine r_iload_n (i := 1) hk (dk_at D_Mod_doRead 110 rfl) rfl rfl ?_
            refine r_bipush hk (dk_at D_Mod_doRead 111 rfl) (by decide) ?_
            refine r_icmp_eq (t := 214) hk (dk_at D_Mod_doRead 112 rfl) (by decide) (by omega) (by omega) (fun c_203 => ?_) (fun c_203 => ?_)
            · exact absurd c_203 (by omega)
            · refine r_aload_n (i := 0) hk (dk_at D_Mod_doRead 113 rfl) rfl rfl ?_
              refine r_iload_n (i := 1) hk (dk_at D_Mod_doRead 114 rfl) rfl rfl ?_
              refine r_lload_n (i := 3) hk (dk_at D_Mod_doRead 115 rfl) rfl rfl ?_
              refine r_iload (i := 5) hk (dk_at D_Mod_doRead 116 rfl) rfl ?_
              refine r_callVqv hk hR m_Mod_sum s_Mod_sum ml_Mod_161 (dk_at D_Mod_doRead 117 rfl) (c_Mod_sum G (k := 3) (v := v) (sg := sg) h hA hv hop (Or.inr rfl)) (fun w h => ?_) (i := (50, 0)) (hw := hob)
              exact fin w (by rw [wrk_a (Or.inr rfl)]) (by rw [wrk_a (Or.inr rfl)]; exact h)
          · exact absurd c_168 (by omega)
        · exact absurd c_133 (by omega)
      · exact absurd c_94 (by omega)
    · subst e
      obtain rfl := ops4 op hop2 hop
      have eF : mFx 69 d = 0 := rfl
      rw [eF] at h hob
      refine r_iload_n (i := 1) hk (dk_at D_Mod_doRead 51 rfl) rfl rfl ?_
      refine r_bipush hk (dk_at D_Mod_doRead 52 rfl) (by decide) ?_
      refine r_icmp_ne (t := 130) hk (dk_at D_Mod_doRead 53 rfl) (by decide) (by omega) (by omega) (fun c_94 => ?_) (fun c_94 => ?_)
      · refine r_iload_n (i := 1) hk (dk_at D_Mod_doRead 72 rfl) rfl rfl ?_
        refine r_bipush hk (dk_at D_Mod_doRead 73 rfl) (by decide) ?_
        refine r_icmp_ne (t := 165) hk (dk_at D_Mod_doRead 74 rfl) (by decide) (by omega) (by omega) (fun c_133 => ?_) (fun c_133 => ?_)
        · refine r_iload_n (i := 1) hk (dk_at D_Mod_doRead 91 rfl) rfl rfl ?_
          refine r_bipush hk (dk_at D_Mod_doRead 92 rfl) (by decide) ?_
          refine r_icmp_ne (t := 200) hk (dk_at D_Mod_doRead 93 rfl) (by decide) (by omega) (by omega) (fun c_168 => ?_) (fun c_168 => ?_)
          · refine r_iload_n (i := 1) hk (dk_at D_Mod_doRead 110 rfl) rfl rfl ?_
            refine r_bipush hk (dk_at D_Mod_doRead 111 rfl) (by decide) ?_
            refine r_icmp_eq (t := 214) hk (dk_at D_Mod_doRead 112 rfl) (by decide) (by omega) (by omega) (fun c_203 => ?_) (fun c_203 => ?_)
            · exact fin w (by rw [wrk_l]) (by rw [wrk_l]; exact h)
            · exact absurd rfl c_203
          · exact absurd c_168 (by omega)
        · exact absurd c_133 (by omega)
      · exact absurd c_94 (by omega)
    · subst e
      obtain rfl := ops5 op hop2 hop
      have eF : mFx 19 d = 20 := rfl
      rw [eF] at h hob
      have hds := ds_le (A / 10 ^ 10) 10
      refine r_iload_n (i := 1) hk (dk_at D_Mod_doRead 51 rfl) rfl rfl ?_
      refine r_bipush hk (dk_at D_Mod_doRead 52 rfl) (by decide) ?_
      refine r_icmp_ne (t := 130) hk (dk_at D_Mod_doRead 53 rfl) (by decide) (by omega) (by omega) (fun c_94 => ?_) (fun c_94 => ?_)
      · refine r_iload_n (i := 1) hk (dk_at D_Mod_doRead 72 rfl) rfl rfl ?_
        refine r_bipush hk (dk_at D_Mod_doRead 73 rfl) (by decide) ?_
        refine r_icmp_ne (t := 165) hk (dk_at D_Mod_doRead 74 rfl) (by decide) (by omega) (by omega) (fun c_133 => ?_) (fun c_133 => ?_)
        · refine r_iload_n (i := 1) hk (dk_at D_Mod_doRead 91 rfl) rfl rfl ?_
          refine r_bipush hk (dk_at D_Mod_doRead 92 rfl) (by decide) ?_
          refine r_icmp_ne (t := 200) hk (dk_at D_Mod_doRead 93 rfl) (by decide) (by omega) (by omega) (fun c_168 => ?_) (fun c_168 => ?_)
          · exact absurd rfl c_168
          · refine r_aload_n (i := 0) hk (dk_at D_Mod_doRead 94 rfl) rfl rfl ?_
            refine r_dup hk (dk_at D_Mod_doRead 95 rfl) rfl ?_
            refine r_get hk fl_Mod_99 (dk_at D_Mod_doRead 96 rfl) ?_ (hw := hob)
            refine r_iconst hk (dk_at D_Mod_doRead 97 rfl) ?_
            refine r_aload_n (i := 0) hk (dk_at D_Mod_doRead 98 rfl) rfl rfl ?_
            refine r_get hk fl_Mod_118 (dk_at D_Mod_doRead 99 rfl) ?_ (hw := hob)
            refine r_callS hk hR m_Mod_sumOfDigits s_Mod_sumOfDigits ml_Mod_154 (dk_at D_Mod_doRead 100 rfl) (c_Mod_sumOfDigits G (v := A / 10 ^ 10) hU) ?_
            refine r_imul hk (dk_at D_Mod_doRead 101 rfl) ?_
            refine r_i2l hk (dk_at D_Mod_doRead 102 rfl) (by omega) ?_
            refine r_ladd hk (dk_at D_Mod_doRead 103 rfl) ?_
            refine r_topl (x' := ((t + (20 + 2 * ds (A / 10 ^ 10) 10) : Nat) : Int)) (by omega) ?_
            refine r_put (fs' := [_, _, _, _, _, _, _, _, _, _, _, _, _, _, _, _, _, _, _, _, _, _, _, _, _, _, _, _]) hk fl_Mod_99 ft_Mod_11 (dk_at D_Mod_doRead 104 rfl) ?_ (hw := hob)
            refine r_gp (fun w => TX w0 ad w cd (((A / 10 ^ 10 : Nat) : Int)) (((A % 10 ^ 10 : Nat) : Int)) (((v : Nat) : Int)) mn sg ov (((nx : Nat) : Int)) (-1) (t + (20 + 2 * ds (A / 10 ^ 10) 10)) qn on m fu c g q o ln r p hd at_ wr) (h.sc (t' := t + (20 + 2 * ds (A / 10 ^ 10) 10))) (fun w h => ?_)
            have hob := h.ob_
            refine r_aload_n (i := 0) hk (dk_at D_Mod_doRead 105 rfl) rfl rfl ?_
            refine r_lload_n (i := 3) hk (dk_at D_Mod_doRead 106 rfl) rfl rfl ?_
            refine r_iload (i := 5) hk (dk_at D_Mod_doRead 107 rfl) rfl ?_
            refine r_callVqv hk hR m_Mod_multiply s_Mod_multiply ml_Mod_158 (dk_at D_Mod_doRead 108 rfl) (c_Mod_multiply G (v := v) (sg := sg) h hA hv) (fun w h => ?_) (i := (50, 0)) (hw := hob)
            refine r_goto (t := 214) hk (dk_at D_Mod_doRead 109 rfl) (by decide) ?_
            exact fin w (by rw [wrk_m]) (by rw [wrk_m]; exact h)
        · exact absurd c_133 (by omega)
      · exact absurd c_94 (by omega)
    · subst e
      obtain rfl := ops6 op hop2 hop
      have eF : mFx 14 d = 20 := rfl
      rw [eF] at h hob
      have hU6 := q6 rfl
      have hq9 : A / v < 10 ^ 10 := by
        have := dv_q (n := 10) (A := A) (v := v) (by omega) hU6 (Nat.le_refl _)
        rwa [show 10 - 10 = 0 from rfl, Nat.pow_zero, Nat.div_one] at this
      have hds := ds_le (A / v) 10
      obtain ⟨d1, d2⟩ := div_hl (r := A % v) hq9
      refine r_iload_n (i := 1) hk (dk_at D_Mod_doRead 51 rfl) rfl rfl ?_
      refine r_bipush hk (dk_at D_Mod_doRead 52 rfl) (by decide) ?_
      refine r_icmp_ne (t := 130) hk (dk_at D_Mod_doRead 53 rfl) (by decide) (by omega) (by omega) (fun c_94 => ?_) (fun c_94 => ?_)
      · refine r_iload_n (i := 1) hk (dk_at D_Mod_doRead 72 rfl) rfl rfl ?_
        refine r_bipush hk (dk_at D_Mod_doRead 73 rfl) (by decide) ?_
        refine r_icmp_ne (t := 165) hk (dk_at D_Mod_doRead 74 rfl) (by decide) (by omega) (by omega) (fun c_133 => ?_) (fun c_133 => ?_)
        · exact absurd rfl c_133
        · refine r_aload_n (i := 0) hk (dk_at D_Mod_doRead 75 rfl) rfl rfl ?_
          refine r_lload_n (i := 3) hk (dk_at D_Mod_doRead 76 rfl) rfl rfl ?_
          refine r_iload (i := 5) hk (dk_at D_Mod_doRead 77 rfl) rfl ?_
          refine r_callVqv hk hR m_Mod_divide s_Mod_divide ml_Mod_150 (dk_at D_Mod_doRead 78 rfl) (c_Mod_divide G (v := v) (sg := sg) h hA hv hU6) (fun w h => ?_) (i := (50, 0)) (hw := hob)
          clear hob
          have hob := h.ob_
          have hob2 := hob
          rw [d2] at hob2
          refine r_aload_n (i := 0) hk (dk_at D_Mod_doRead 79 rfl) rfl rfl ?_
          refine r_dup hk (dk_at D_Mod_doRead 80 rfl) rfl ?_
          refine r_get hk fl_Mod_99 (dk_at D_Mod_doRead 81 rfl) ?_ (hw := hob2)
          refine r_iconst hk (dk_at D_Mod_doRead 82 rfl) ?_
          refine r_aload_n (i := 0) hk (dk_at D_Mod_doRead 83 rfl) rfl rfl ?_
          refine r_get hk fl_Mod_115 (dk_at D_Mod_doRead 84 rfl) ?_ (hw := hob2)
          refine r_callS hk hR m_Mod_sumOfDigits s_Mod_sumOfDigits ml_Mod_154 (dk_at D_Mod_doRead 85 rfl) (c_Mod_sumOfDigits G (v := A / v) hq9) ?_
          refine r_imul hk (dk_at D_Mod_doRead 86 rfl) ?_
          refine r_i2l hk (dk_at D_Mod_doRead 87 rfl) (by omega) ?_
          refine r_ladd hk (dk_at D_Mod_doRead 88 rfl) ?_
          refine r_topl (x' := ((t + (20 + 2 * ds (A / v) 10) : Nat) : Int)) (by omega) ?_
          refine r_put (fs' := [_, _, _, _, _, _, _, _, _, _, _, _, _, _, _, _, _, _, _, _, _, _, _, _, _, _, _, _]) hk fl_Mod_99 ft_Mod_11 (dk_at D_Mod_doRead 89 rfl) ?_ (hw := hob)
          refine r_goto (t := 214) hk (dk_at D_Mod_doRead 90 rfl) (by decide) ?_
          exact fin _ (by rw [wrk_d1 hU6]) (by rw [wrk_d1 hU6]; exact h.sc (t' := t + (20 + 2 * ds (A / v) 10)))
      · exact absurd c_94 (by omega)
    · subst e
      obtain rfl := ops10 op hop2 hop
      have eF : mFx 71 d = 10 := rfl
      rw [eF] at h hob
      have hon2 := q10 rfl
      obtain ⟨fo, h55, hfo⟩ := h.o_
      have m116 : ∀ x : Int, x = sgn (v, sg) → V G K 7 (QE G K (fun rv ad' w' => rv = some (.int (i32 (b2i (decide ((wrk 10 71 v sg (c, g, t, A, mn, ov, dv, dm, nx, -1, q, qn, o, on, ln, m, r, p, fc)).2 = -1))))) ∧ ad' = ad ∧ TS w0 ad w' cd fu hd at_ wr (setFl (wrk 10 71 v sg (c, g, t, A, mn, ov, dv, dm, nx, -1, q, qn, o, on, ln, m, r, p, fc)).2 (wrk 10 71 v sg (c, g, t, A, mn, ov, dv, dm, nx, -1, q, qn, o, on, ln, m, r, p, fc)).1)) noT 0 0) 0 0 116 [some (.ref (ad (50, 0))), some (.int (i32 ((71 : Nat) : Int))), some (.int (i32 d)), some (.long (i64 v)), none, some (.int (i32 (b2i sg))), some (.int (i32 (nx : Nat)))] [.long (i64 x), .int (i32 (on : Nat)), .ref (ad (55, 0))] ad w := by
        intro x hx
        subst hx
        refine r_lastore (ix := on) hk (dk_at D_Mod_doRead 64 rfl) ?_ (i := (55, 0)) (hw := h55)
        refine r_aload_n (i := 0) hk (dk_at D_Mod_doRead 65 rfl) rfl rfl ?_
        refine r_dup hk (dk_at D_Mod_doRead 66 rfl) rfl ?_
        refine r_get hk fl_Mod_137 (dk_at D_Mod_doRead 67 rfl) ?_ (hw := (up_n (by intro e; cases e)).trans hob)
        refine r_iconst hk (dk_at D_Mod_doRead 68 rfl) ?_
        refine r_iadd hk (dk_at D_Mod_doRead 69 rfl) ?_
        refine r_topi (x' := ((on + 1 : Nat) : Int)) (by omega) ?_
        refine r_put (fs' := [_, _, _, _, _, _, _, _, _, _, _, _, _, _, _, _, _, _, _, _, _, _, _, _, _, _, _, _]) hk fl_Mod_137 ft_Mod_15 (dk_at D_Mod_doRead 70 rfl) ?_ (hw := (up_n (by intro e; cases e)).trans hob)
        refine r_goto (t := 214) hk (dk_at D_Mod_doRead 71 rfl) (by decide) ?_
        refine fin _ (by rw [wrk_p0 hon2]) (by
          rw [wrk_p0 hon2]
          refine h.os (on' := on + 1) (o' := fu_ o on (v, sg)) (fun i a b => (up_n a).trans (up_n b)) up_s ⟨_, (up_n (by intro e; cases e)).trans up_s, fun j hj => ?_⟩
          show updV fo on (.long (i64 (sgn (v, sg)))) j = .long (i64 (sgn (fu_ o on (v, sg) j)))
          by_cases e : j = on
          · rw [e, updV_s, fu_s]
          · rw [updV_n e, fu_n e]; exact hfo j (by omega))
      refine r_iload_n (i := 1) hk (dk_at D_Mod_doRead 51 rfl) rfl rfl ?_
      refine r_bipush hk (dk_at D_Mod_doRead 52 rfl) (by decide) ?_
      refine r_icmp_ne (t := 130) hk (dk_at D_Mod_doRead 53 rfl) (by decide) (by omega) (by omega) (fun c_94 => ?_) (fun c_94 => ?_)
      · exact absurd rfl c_94
      · refine r_aload_n (i := 0) hk (dk_at D_Mod_doRead 54 rfl) rfl rfl ?_
        refine r_get hk fl_Mod_24 (dk_at D_Mod_doRead 55 rfl) ?_ (hw := hob)
        refine r_aload_n (i := 0) hk (dk_at D_Mod_doRead 56 rfl) rfl rfl ?_
        refine r_get hk fl_Mod_137 (dk_at D_Mod_doRead 57 rfl) ?_ (hw := hob)
        refine r_iload (i := 5) hk (dk_at D_Mod_doRead 58 rfl) rfl ?_
        refine r_if_eqB (t := 115) hk (dk_at D_Mod_doRead 59 rfl) (by decide) (fun c_107 => ?_) (fun c_107 => ?_)
        · refine r_lload_n (i := 3) hk (dk_at D_Mod_doRead 63 rfl) rfl rfl ?_
          exact m116 _ (by rw [sgn_eq, c_107]; rfl)
        · refine r_lload_n (i := 3) hk (dk_at D_Mod_doRead 60 rfl) rfl rfl ?_
          refine r_lneg hk (dk_at D_Mod_doRead 61 rfl) ?_
          refine r_goto (t := 116) hk (dk_at D_Mod_doRead 62 rfl) (by decide) ?_
          exact m116 _ (by rw [sgn_eq, c_107]; rfl)
  refine r_iload_n (i := 1) hk (dk_at D_Mod_doRead 0 rfl) rfl rfl ?_
  refine r_bipush hk (dk_at D_Mod_doRead 1 rfl) (by decide) ?_
  refine r_icmp_ne (t := 14) hk (dk_at D_Mod_doRead 2 rfl) (by decide) (by omega) (by omega) (fun c_3 => ?_) (fun c_3 => ?_)
  · refine r_iload_n (i := 1) hk (dk_at D_Mod_doRead 8 rfl) rfl rfl ?_
    refine r_bipush hk (dk_at D_Mod_doRead 9 rfl) (by decide) ?_
    refine r_icmp_ne (t := 42) hk (dk_at D_Mod_doRead 10 rfl) (by decide) (by omega) (by omega) (fun c_17 => ?_) (fun c_17 => ?_)
    · refine r_iload_n (i := 1) hk (dk_at D_Mod_doRead 24 rfl) rfl rfl ?_
      refine r_bipush hk (dk_at D_Mod_doRead 25 rfl) (by decide) ?_
      refine r_icmp_ne (t := 65) hk (dk_at D_Mod_doRead 26 rfl) (by decide) (by omega) (by omega) (fun c_45 => ?_) (fun c_45 => ?_)
      · exact g65 (fun z => by rw [z] at hop; have := ops6 op hop2 hop; omega) (fun z => by rw [z] at hop; have := ops10 op hop2 hop; omega)
      · refine r_aload_n (i := 0) hk (dk_at D_Mod_doRead 27 rfl) rfl rfl ?_
        refine r_get hk fl_Mod_137 (dk_at D_Mod_doRead 28 rfl) ?_ (hw := hob)
        refine r_bipush hk (dk_at D_Mod_doRead 29 rfl) (by decide) ?_
        refine r_icmp_ne (t := 65) hk (dk_at D_Mod_doRead 30 rfl) (by decide) (by omega) (by omega) (fun c_54 => ?_) (fun c_54 => ?_)
        · exact g65 (fun z => by rw [z] at hop; have := ops6 op hop2 hop; omega) (fun z => by omega)
        · obtain rfl : op = 71 := by omega
          have e10 : k = 10 := Option.some.inj (hop.symm.trans kn71)
          subst e10
          have h40 : on = 40 := by omega
          refine r_aload_n (i := 0) hk (dk_at D_Mod_doRead 31 rfl) rfl rfl ?_
          refine r_iconst hk (dk_at D_Mod_doRead 32 rfl) ?_
          refine r_iload (i := 6) hk (dk_at D_Mod_doRead 33 rfl) rfl ?_
          refine r_callVq hk hR m_Mod_stop s_Mod_stop ml_Mod_134 (dk_at D_Mod_doRead 34 rfl) (c_Mod_stop G (z := 4) (y := ((nx : Nat) : Int)) h) (fun w h => ?_) (i := (50, 0)) (hw := hob)
          exact r_bret (b := false) hk (dk_at D_Mod_doRead 35 rfl) ⟨by rw [wrk_p1 h40]; rfl, rfl, by rw [wrk_p1 h40]; exact h⟩
    · obtain rfl : op = 14 := by omega
      have e6 : k = 6 := Option.some.inj (hop.symm.trans kn14)
      subst e6
      refine r_aload_n (i := 0) hk (dk_at D_Mod_doRead 11 rfl) rfl rfl ?_
      refine r_get hk fl_Mod_118 (dk_at D_Mod_doRead 12 rfl) ?_ (hw := hob)
      refine r_lload_n (i := 3) hk (dk_at D_Mod_doRead 13 rfl) rfl rfl ?_
      refine r_lc_lt (t := 42) hk (dk_at D_Mod_doRead 14 rfl) (dk_at D_Mod_doRead 15 rfl) (by decide) (by omega) (by omega) (fun c_26 => ?_) (fun c_26 => ?_)
      · refine r_iload_n (i := 1) hk (dk_at D_Mod_doRead 24 rfl) rfl rfl ?_
        refine r_bipush hk (dk_at D_Mod_doRead 25 rfl) (by decide) ?_
        refine r_icmp_ne (t := 65) hk (dk_at D_Mod_doRead 26 rfl) (by decide) (by omega) (by omega) (fun c_45 => ?_) (fun c_45 => ?_)
        · exact g65 (fun _ => by omega) (fun z => by omega)
        · exact absurd c_45 (by omega)
      · have hnU : ¬ A / 10 ^ 10 < v := by omega
        refine r_aload_n (i := 0) hk (dk_at D_Mod_doRead 16 rfl) rfl rfl ?_
        refine r_iconst hk (dk_at D_Mod_doRead 17 rfl) ?_
        refine r_put (fs' := [_, _, _, _, _, _, _, _, _, _, _, _, _, _, _, _, _, _, _, _, _, _, _, _, _, _, _, _]) hk fl_Mod_121 ft_Mod_8 (dk_at D_Mod_doRead 18 rfl) ?_ (hn := rfl) (hfit := rfl) (hw := hob)
        refine r_gp (fun w => TX w0 ad w cd (((A / 10 ^ 10 : Nat) : Int)) (((A % 10 ^ 10 : Nat) : Int)) (((dv : Nat) : Int)) mn dm true (((nx : Nat) : Int)) (-1) t qn on m fu c g q o ln r p hd at_ wr) (h.sc (ov' := true)) (fun w h => ?_)
        have hob := h.ob_
        refine r_aload_n (i := 0) hk (dk_at D_Mod_doRead 19 rfl) rfl rfl ?_
        refine r_iconst hk (dk_at D_Mod_doRead 20 rfl) ?_
        refine r_iload (i := 6) hk (dk_at D_Mod_doRead 21 rfl) rfl ?_
        refine r_callVq hk hR m_Mod_stop s_Mod_stop ml_Mod_134 (dk_at D_Mod_doRead 22 rfl) (c_Mod_stop G (z := 3) (y := ((nx : Nat) : Int)) h) (fun w h => ?_) (i := (50, 0)) (hw := hob)
        exact r_bret (b := false) hk (dk_at D_Mod_doRead 23 rfl) ⟨by rw [wrk_d0 hnU]; rfl, rfl, by rw [wrk_d0 hnU]; exact h⟩
  · exact absurd c_3 (by omega)
