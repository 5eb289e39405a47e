/-! DrumMachine: store, readCard, shift, branches, look -/
def stD (op A dv : Nat) : Nat := if op = 22 then sad dv (A % 10 ^ 10 / 10 ^ 4 % 10 ^ 4) else if op = 24 then dv else if op = 21 then A / 10 ^ 10 else A % 10 ^ 10
def stM (op : Nat) (mn dm : Bool) : Bool := if op = 22 then dm else if op = 24 then dm else mn
def cdv (v : Nat) : Nat → Nat := fun k => cod (dgt v k)
theorem c_Mach_store (G : Gt) {w0 w : Wt} {ad : Ix → Nat} {c : Nat → Nat → Nat} {g : Nat → Bool} {t : Nat} {A : Nat} {mn : Bool} {ov : Bool} {dv : Nat} {dm : Bool} {nx : Nat} {fl : Int} {q : Nat → Nat × Bool} {qn : Nat} {o : Nat → Nat × Bool} {on : Nat} {ln : Nat → Int × Int × Int × Int} {m : Nat} {r : Nat → Bool} {p : Nat → Int} {fc : Nat} {op a : Nat} (h : WW w0 ad w (c, g, t, A, mn, ov, dv, dm, nx, fl, q, qn, o, on, ln, m, r, p, fc)) (hop : op < 100) (ha : a < 200) : Mt G y_Mach_store w_Mach_store 2 0 0 [.ref (ad (0, 0)), .int (i32 op), .int (i32 a)] ad w (fun v ad' w' => v = some (.int (i32 (-1))) ∧ ad' = ad ∧ WW w0 ad w' (fu_ c a (cdv (stD op A dv)), fu_ g a (stM op mn dm), t, A, mn, ov, stD op A dv, stM op mn dm, nx, fl, q, qn, o, on, ln, m, r, p, fc)) noT := by
  refine Mt.to [some (.ref (ad (0, 0))), some (.int (i32 op)), some (.int (i32 a)), none] (fun K hk hR hin => ?_)
  have fin : ∀ (w : Wt) (x : Option Value), WW w0 ad w (c, g, t, A, mn, ov, stD op A dv, stM op mn dm, nx, fl, q, qn, o, on, ln, m, r, p, fc) → V G K 4 (QE G K (fun v ad' w' => v = some (.int (i32 (-1))) ∧ ad' = ad ∧ WW w0 ad w' (fu_ c a (cdv (stD op A dv)), fu_ g a (stM op mn dm), t, A, mn, ov, stD op A dv, stM op mn dm, nx, fl, q, qn, o, on, ln, m, r, p, fc)) noT 0 0) 0 0 66 [some (.ref (ad (0, 0))), some (.int (i32 op)), some (.int (i32 a)), x] [] ad w := by
    intro w x h
    have h0 := h.m0
    refine r_aload_n (i := 0) hk (dk_at D_Mach_store 33 rfl) rfl rfl ?_
    refine r_get hk fl_Mach_62 (dk_at D_Mach_store 34 rfl) ?_
    refine r_iload_n (i := 2) hk (dk_at D_Mach_store 35 rfl) rfl rfl ?_
    refine r_aload_n (i := 0) hk (dk_at D_Mach_store 36 rfl) rfl rfl ?_
    refine r_get hk fl_Mach_76 (dk_at D_Mach_store 37 rfl) ?_
    refine r_callVv hk hR m_Drum_put s_Drum_put ml_Mach_175 (dk_at D_Mach_store 38 rfl) (c_Drum_put G h.d1 h.d2 (h.d3 ha) ha h.t10.1 h.t10.2) ?_ (i := (1, 0)) (hw := h.d1)
    refine r_gp (fun w => WW w0 ad w (fu_ c a (cdv (stD op A dv)), fu_ g a (stM op mn dm), t, A, mn, ov, stD op A dv, stM op mn dm, nx, fl, q, qn, o, on, ln, m, r, p, fc)) h.row (fun w h => ?_)
    refine r_iconst hk (dk_at D_Mach_store 39 rfl) ?_
    exact r_iret hk (dk_at D_Mach_store 40 rfl) ⟨rfl, rfl, h⟩
  have h0 := h.m0
  obtain ⟨x14, f14, e14, e15⟩ := h.s14
  have hf : ∀ u : Bool, V G K 4 (QE G K (fun v ad' w' => v = some (.int (i32 (-1))) ∧ ad' = ad ∧ WW w0 ad w' (fu_ c a (cdv (stD op A dv)), fu_ g a (stM op mn dm), t, A, mn, ov, stD op A dv, stM op mn dm, nx, fl, q, qn, o, on, ln, m, r, p, fc)) noT 0 0) 0 0 15 [some (.ref (ad (0, 0))), some (.int (i32 op)), some (.int (i32 a)), none] [.int (i32 (b2i u)), .ref (ad (4, 0))] ad w ∨ u ≠ decide (op = 21) := by
    intro u
    by_cases hu : u = decide (op = 21)
    case neg => exact Or.inr hu
    refine Or.inl ?_
    refine r_aload_n (i := 0) hk (dk_at D_Mach_store 8 rfl) rfl rfl ?_
    refine r_get hk fl_Mach_83 (dk_at D_Mach_store 9 rfl) ?_
    refine r_callVv hk hR m_Acc_half s_Acc_half ml_Mach_159 (dk_at D_Mach_store 10 rfl) (c_Acc_half G (u := u) h.a4 h.a5 e14 e15) ?_ (i := (4, 0)) (hw := h.a4)
    refine r_gp (fun w => WW w0 ad w (c, g, t, A, mn, ov, dv, dm, nx, fl, q, qn, o, on, ln, m, r, p, fc) ∧ tW ad w (14, 0) (15, 0) (cond u (A / 10 ^ 10) (A % 10 ^ 10)) mn) ⟨h.read, up_s, (up_n (by intro e; cases e)).trans up_s⟩ (fun w h => ?_)
    obtain ⟨h, h14⟩ := h
    have h0 := h.m0
    have ht := h.t10
    refine r_iload_n (i := 1) hk (dk_at D_Mach_store 11 rfl) rfl rfl ?_
    refine r_bipush hk (dk_at D_Mach_store 12 rfl) (by decide) ?_
    refine r_icmp_ne (t := 49) hk (dk_at D_Mach_store 13 rfl) (by decide) (by omega) (by omega) (fun c_25 => ?_) (fun c_25 => ?_)
    · refine r_iload_n (i := 1) hk (dk_at D_Mach_store 25 rfl) rfl rfl ?_
      refine r_bipush hk (dk_at D_Mach_store 26 rfl) (by decide) ?_
      
      refine r_icmp_eq (t := 66) hk (dk_at D_Mach_store 27 rfl) (by decide) (by omega) (by omega) (fun c_52 => ?_) (fun c_52 => ?_)
      · have e24 : op = 24 := by omega
        subst e24
        exact fin _ _ h
      · refine r_aload_n (i := 0) hk (dk_at D_Mach_store 28 rfl) rfl rfl ?_
        refine r_get hk fl_Mach_76 (dk_at D_Mach_store 29 rfl) ?_
        refine r_aload_n (i := 0) hk (dk_at D_Mach_store 30 rfl) rfl rfl ?_
        refine r_get hk fl_Mach_83 (dk_at D_Mach_store 31 rfl) ?_
        refine r_callVv hk hR m_Word_copy s_Word_copy ml_Mach_139 (dk_at D_Mach_store 32 rfl) (c_Word_copy G (i := (10, 0)) (j := (11, 0)) ht.1 ht.2 h14.1 h14.2 (by intro e; cases e)) ?_ (i := (10, 0)) (hw := ht.1)
        have e1 : stD op A dv = cond u (A / 10 ^ 10) (A % 10 ^ 10) := by
          unfold stD
          rw [if_neg (by omega), if_neg (by omega), hu]
          by_cases e : op = 21
          · rw [if_pos e, decide_eq_true e]; rfl
          · rw [if_neg e, decide_eq_false e]; rfl
        have e2 : stM op mn dm = mn := by unfold stM; rw [if_neg (by omega), if_neg (by omega)]
        refine fin _ _ ?_
        rw [e1, e2]
        exact h.dist
    · refine r_aload_n (i := 0) hk (dk_at D_Mach_store 14 rfl) rfl rfl ?_
      refine r_get hk fl_Mach_83 (dk_at D_Mach_store 15 rfl) ?_
      refine r_iconst hk (dk_at D_Mach_store 16 rfl) ?_
      refine r_iconst hk (dk_at D_Mach_store 17 rfl) ?_
      have e22 : op = 22 := by omega
      subst e22
      have eu : u = false := hu
      refine r_callV hk hR m_Word_part s_Word_part ml_Mach_171 (dk_at D_Mach_store 18 rfl) (c_Word_part G (a := 4) (m := 4) h14.1 h14.2 (by decide) (by decide)) ?_ (i := (14, 0)) (hw := h14.1)
      subst eu
      refine r_istore_n (i := 3) (ls' := [_, _, _, _]) hk (dk_at D_Mach_store 19 rfl) rfl rfl rfl rfl ?_
      refine r_aload_n (i := 0) hk (dk_at D_Mach_store 20 rfl) rfl rfl ?_
      refine r_get hk fl_Mach_76 (dk_at D_Mach_store 21 rfl) ?_
      refine r_iload_n (i := 3) hk (dk_at D_Mach_store 22 rfl) rfl rfl ?_
      refine r_callVv hk hR m_Word_setAddress s_Word_setAddress ml_Mach_163 (dk_at D_Mach_store 23 rfl) (c_Word_setAddress G (i := (10, 0)) (j := (11, 0)) ht.1 ht.2 (Nat.mod_lt _ (by decide))) ?_ (i := (10, 0)) (hw := ht.1)
      refine r_goto (t := 66) hk (dk_at D_Mach_store 24 rfl) (by decide) ?_
      exact fin _ _ h.distD
  refine r_aload_n (i := 0) hk (dk_at D_Mach_store 0 rfl) rfl rfl ?_
  refine r_get hk fl_Mach_69 (dk_at D_Mach_store 1 rfl) ?_
  refine r_iload_n (i := 1) hk (dk_at D_Mach_store 2 rfl) rfl rfl ?_
  refine r_bipush hk (dk_at D_Mach_store 3 rfl) (by decide) ?_
  refine r_icmp_ne (t := 14) hk (dk_at D_Mach_store 4 rfl) (by decide) (by omega) (by omega) (fun c_7 => ?_) (fun c_7 => ?_)
  · refine r_iconst hk (dk_at D_Mach_store 7 rfl) ?_
    exact (hf false).resolve_right (fun z => z (decide_eq_false (by omega)).symm)
  · refine r_iconst hk (dk_at D_Mach_store 5 rfl) ?_
    refine r_goto (t := 15) hk (dk_at D_Mach_store 6 rfl) (by decide) ?_
    exact (hf true).resolve_right (fun z => z (decide_eq_true (by omega)).symm)
theorem WW.cards {w0 w : Wt} {ad : Ix → Nat} {c : Nat → Nat → Nat} {g : Nat → Bool} {t : Nat} {A : Nat} {mn : Bool} {ov : Bool} {dv : Nat} {dm : Bool} {nx : Nat} {fl : Int} {q : Nat → Nat × Bool} {qn : Nat} {o : Nat → Nat × Bool} {on : Nat} {ln : Nat → Int × Int × Int × Int} {m : Nat} {r : Nat → Bool} {p : Nat → Int} {fc : Nat} (h : WW w0 ad w (c, g, t, A, mn, ov, dv, dm, nx, fl, q, qn, o, on, ln, m, r, p, fc)) (hq : 0 < qn) : WW w0 ad (up w (0, 0) (some (mO ad ((fc + 1) % 20) (qn - 1) on nx fl))) (c, g, t, A, mn, ov, dv, dm, nx, fl, fun k => q (k + 1), qn - 1, o, on, ln, m, r, p, (fc + 1) % 20) := by
  obtain ⟨h0, h1, h2, h3, h4, h5, h7, h8⟩ := h
  refine ⟨(fun i hi => (up_n (fun e => by subst e; revert hi; decide)).trans (h0 i hi)), h1.fr (eqOn.up rfl), h2.fr (eqOn.up rfl), h3.fr (eqOn.up rfl), h4.fr (eqOn.up rfl), h5.fr (eqOn.up rfl) (eqOn.up rfl), up_s, ?_⟩
  have h9 := h8.fr (eqOn.up (i := (0, 0)) (x := some (mO ad ((fc + 1) % 20) (qn - 1) on nx fl)) rfl)
  refine ⟨h9.1, h9.2.1, fun k hk => ?_⟩
  have := h9.2.2 (k + 1) (by omega)
  rw [show (fc + (k + 1)) % 20 = ((fc + 1) % 20 + k) % 20 by omega] at this
  exact this
def rdc (a : Nat) : St → St × Int
  | (c, g, t, A, mn, ov, dv, dm, nx, fl, q, qn, o, on, ln, m, r, p, fc) => if qn = 0 then ((c, g, t, A, mn, ov, dv, dm, nx, fl, q, qn, o, on, ln, m, r, p, fc), 4) else ((fu_ c a (cdv (q 0).1), fu_ g a (q 0).2, t + 10, A, mn, ov, dv, dm, nx, fl, fun k => q (k + 1), qn - 1, o, on, ln, m, r, p, (fc + 1) % 20), -1)
theorem c_Mach_readCard (G : Gt) {w0 w : Wt} {ad : Ix → Nat} {c : Nat → Nat → Nat} {g : Nat → Bool} {t : Nat} {A : Nat} {mn : Bool} {ov : Bool} {dv : Nat} {dm : Bool} {nx : Nat} {fl : Int} {q : Nat → Nat × Bool} {qn : Nat} {o : Nat → Nat × Bool} {on : Nat} {ln : Nat → Int × Int × Int × Int} {m : Nat} {r : Nat → Bool} {p : Nat → Int} {fc : Nat} {a : Nat} (h : WW w0 ad w (c, g, t, A, mn, ov, dv, dm, nx, fl, q, qn, o, on, ln, m, r, p, fc)) (ha : a < 200) (hfc : fc < 20) (hqn : qn ≤ 20) : Mt G y_Mach_readCard w_Mach_readCard 2 0 0 [.ref (ad (0, 0)), .int (i32 a)] ad w (fun rv ad' w' => rv = some (.int (i32 (rdc a (c, g, t, A, mn, ov, dv, dm, nx, fl, q, qn, o, on, ln, m, r, p, fc)).2)) ∧ ad' = ad ∧ WW w0 ad w' (rdc a (c, g, t, A, mn, ov, dv, dm, nx, fl, q, qn, o, on, ln, m, r, p, fc)).1) noT := by
  refine Mt.to [some (.ref (ad (0, 0))), some (.int (i32 a))] (fun K hk hR hin => ?_)
  have h0 := h.m0
  have h21 := h.c21
  refine r_aload_n (i := 0) hk (dk_at D_Mach_readCard 0 rfl) rfl rfl ?_
  refine r_get hk fl_Mach_178 (dk_at D_Mach_readCard 1 rfl) ?_
  refine r_if_ne (t := 9) hk (dk_at D_Mach_readCard 2 rfl) (by decide) (by omega) (fun c_4 => ?_) (fun c_4 => ?_)
  · have e : rdc a (c, g, t, A, mn, ov, dv, dm, nx, fl, q, qn, o, on, ln, m, r, p, fc) = _ := if_neg (by omega)
    have hc0 : tW ad w (22, fc) (23, fc) (q 0).1 (q 0).2 := by
      have := h.ct (k := 0) (by omega)
      rwa [Nat.add_zero, Nat.mod_eq_of_lt hfc] at this
    refine r_aload_n (i := 0) hk (dk_at D_Mach_readCard 5 rfl) rfl rfl ?_
    refine r_get hk fl_Mach_62 (dk_at D_Mach_readCard 6 rfl) ?_
    refine r_iload_n (i := 1) hk (dk_at D_Mach_readCard 7 rfl) rfl rfl ?_
    refine r_aload_n (i := 0) hk (dk_at D_Mach_readCard 8 rfl) rfl rfl ?_
    refine r_get hk fl_Mach_93 (dk_at D_Mach_readCard 9 rfl) ?_
    refine r_aload_n (i := 0) hk (dk_at D_Mach_readCard 10 rfl) rfl rfl ?_
    refine r_get hk fl_Mach_181 (dk_at D_Mach_readCard 11 rfl) ?_
    refine r_aaload (ix := fc) hk (dk_at D_Mach_readCard 12 rfl) ?_
    refine r_callVv hk hR m_Drum_put s_Drum_put ml_Mach_175 (dk_at D_Mach_readCard 13 rfl) (c_Drum_put G h.d1 h.d2 (h.d3 ha) ha hc0.1 hc0.2) ?_ (i := (1, 0)) (hw := h.d1)
    refine r_gp (fun w => WW w0 ad w (fu_ c a (cdv (q 0).1), fu_ g a (q 0).2, t, A, mn, ov, dv, dm, nx, fl, q, qn, o, on, ln, m, r, p, fc)) h.row (fun w h => ?_)
    have h0 := h.m0
    refine r_aload_n (i := 0) hk (dk_at D_Mach_readCard 14 rfl) rfl rfl ?_
    refine r_aload_n (i := 0) hk (dk_at D_Mach_readCard 15 rfl) rfl rfl ?_
    refine r_get hk fl_Mach_181 (dk_at D_Mach_readCard 16 rfl) ?_
    refine r_iconst hk (dk_at D_Mach_readCard 17 rfl) ?_
    refine r_iadd hk (dk_at D_Mach_readCard 18 rfl) ?_
    refine r_bipush hk (dk_at D_Mach_readCard 19 rfl) (by decide) ?_
    refine r_irem hk (dk_at D_Mach_readCard 20 rfl) (by omega) (by omega) ?_
    refine r_topi (x' := (((fc + 1) % 20 : Nat) : Int)) (by omega) ?_
    refine r_put (fs' := [_, _, _, _, _, _, _, _, _, _, _, _, _]) hk fl_Mach_181 ft_Mach_7 (dk_at D_Mach_readCard 21 rfl) ?_
    refine r_aload_n (i := 0) hk (dk_at D_Mach_readCard 22 rfl) rfl rfl ?_
    refine r_dup hk (dk_at D_Mach_readCard 23 rfl) rfl ?_
    refine r_get hk fl_Mach_178 (dk_at D_Mach_readCard 24 rfl) ?_
    refine r_iconst hk (dk_at D_Mach_readCard 25 rfl) ?_
    refine r_isub hk (dk_at D_Mach_readCard 26 rfl) ?_
    refine r_topi (x' := ((qn - 1 : Nat) : Int)) (by omega) ?_
    refine r_put (fs' := [_, _, _, _, _, _, _, _, _, _, _, _, _]) hk fl_Mach_178 ft_Mach_8 (dk_at D_Mach_readCard 27 rfl) ?_
    refine r_we up_up ?_
    refine r_gp (fun w => WW w0 ad w (fu_ c a (cdv (q 0).1), fu_ g a (q 0).2, t, A, mn, ov, dv, dm, nx, fl, fun k => q (k + 1), qn - 1, o, on, ln, m, r, p, (fc + 1) % 20)) (h.cards (by omega)) (fun w h => ?_)
    have h0 := h.m0
    refine r_aload_n (i := 0) hk (dk_at D_Mach_readCard 28 rfl) rfl rfl ?_
    refine r_get hk fl_Mach_62 (dk_at D_Mach_readCard 29 rfl) ?_
    refine r_getK (k := 9) hk kf_Mach_31 rfl (dk_at D_Mach_readCard 30 rfl) ?_
    refine r_bipush hk (dk_at D_Mach_readCard 31 rfl) (by decide) ?_
    refine r_iconst hk (dk_at D_Mach_readCard 32 rfl) ?_
    refine r_callS hk hR m_Mach_takes s_Mach_takes ml_Mach_106 (dk_at D_Mach_readCard 33 rfl) (c_Mach_takes G (k := 9) (op := 70) (d := 0) (by decide) (by decide) (by decide)) ?_
    refine r_callVv hk hR m_Drum_pass s_Drum_pass ml_Mach_143 (dk_at D_Mach_readCard 34 rfl) (c_Drum_pass G (n := tks 9 70 0) h.d1 (by decide)) ?_ (i := (1, 0)) (hw := h.d1)
    refine r_iconst hk (dk_at D_Mach_readCard 35 rfl) ?_
    exact r_iret hk (dk_at D_Mach_readCard 36 rfl) ⟨by rw [e], rfl, by rw [e]; exact h.time⟩
  · have e : rdc a (c, g, t, A, mn, ov, dv, dm, nx, fl, q, qn, o, on, ln, m, r, p, fc) = ((c, g, t, A, mn, ov, dv, dm, nx, fl, q, qn, o, on, ln, m, r, p, fc), 4) := if_pos (by omega)
    refine r_iconst hk (dk_at D_Mach_readCard 3 rfl) ?_
    exact r_iret hk (dk_at D_Mach_readCard 4 rfl) ⟨by rw [e], rfl, by rw [e]; exact h⟩
def shA (op d A : Nat) : Nat := if op = 35 then A * 10 ^ (d % 10) % 10 ^ 20 else if op = 30 then A / 10 ^ (d % 10) else A / 10 ^ (if d % 10 = 0 then 10 else d % 10) + (if 5 ≤ dgt A ((if d % 10 = 0 then 10 else d % 10) - 1) then 1 else 0)
theorem c_Mach_shift (G : Gt) {w0 w : Wt} {ad : Ix → Nat} {c : Nat → Nat → Nat} {g : Nat → Bool} {t : Nat} {A : Nat} {mn : Bool} {ov : Bool} {dv : Nat} {dm : Bool} {nx : Nat} {fl : Int} {q : Nat → Nat × Bool} {qn : Nat} {o : Nat → Nat × Bool} {on : Nat} {ln : Nat → Int × Int × Int × Int} {m : Nat} {r : Nat → Bool} {p : Nat → Int} {fc : Nat} {op d : Nat} (h : WW w0 ad w (c, g, t, A, mn, ov, dv, dm, nx, fl, q, qn, o, on, ln, m, r, p, fc)) (hA : A < 10 ^ 20) (hop : op < 100) (hd : d < 10000) : Mt G y_Mach_shift w_Mach_shift 2 0 0 [.ref (ad (0, 0)), .int (i32 op), .int (i32 d)] ad w (fun v ad' w' => v = none ∧ ad' = ad ∧ WW w0 ad w' (c, g, t + tks 11 op d, shA op d A, mn, ov, dv, dm, nx, fl, q, qn, o, on, ln, m, r, p, fc)) noT := by
  refine Mt.to [some (.ref (ad (0, 0))), some (.int (i32 op)), some (.int (i32 d)), none] (fun K hk hR hin => ?_)
  have h0 := h.m0
  have fin : ∀ (w : Wt) (x : Option Value), WW w0 ad w (c, g, t, shA op d A, mn, ov, dv, dm, nx, fl, q, qn, o, on, ln, m, r, p, fc) → V G K 4 (QE G K (fun v ad' w' => v = none ∧ ad' = ad ∧ WW w0 ad w' (c, g, t + tks 11 op d, shA op d A, mn, ov, dv, dm, nx, fl, q, qn, o, on, ln, m, r, p, fc)) noT 0 0) 0 0 68 [some (.ref (ad (0, 0))), some (.int (i32 op)), some (.int (i32 d)), x] [] ad w := by
    intro w x h
    have h0 := h.m0
    have := tks_le 11 op d
    refine r_aload_n (i := 0) hk (dk_at D_Mach_shift 34 rfl) rfl rfl ?_
    refine r_get hk fl_Mach_62 (dk_at D_Mach_shift 35 rfl) ?_
    refine r_getK (k := 11) hk kf_Mach_37 rfl (dk_at D_Mach_shift 36 rfl) ?_
    refine r_iload_n (i := 1) hk (dk_at D_Mach_shift 37 rfl) rfl rfl ?_
    refine r_iload_n (i := 2) hk (dk_at D_Mach_shift 38 rfl) rfl rfl ?_
    refine r_callS hk hR m_Mach_takes s_Mach_takes ml_Mach_106 (dk_at D_Mach_shift 39 rfl) (c_Mach_takes G (k := 11) (op := op) (d := d) (by decide) (by omega) (by omega)) ?_
    refine r_callVv hk hR m_Drum_pass s_Drum_pass ml_Mach_143 (dk_at D_Mach_shift 40 rfl) (c_Drum_pass G (n := tks 11 op d) h.d1 (by omega)) ?_ (i := (1, 0)) (hw := h.d1)
    exact r_vret hk (dk_at D_Mach_shift 41 rfl) ⟨rfl, rfl, h.time⟩
  have last : ∀ n : Nat, n = (if d % 10 = 0 then 10 else d % 10) → op ≠ 35 → op ≠ 30 → ∀ x, V G K 4 (QE G K (fun v ad' w' => v = none ∧ ad' = ad ∧ WW w0 ad w' (c, g, t + tks 11 op d, shA op d A, mn, ov, dv, dm, nx, fl, q, qn, o, on, ln, m, r, p, fc)) noT 0 0) 0 0 54 [some (.ref (ad (0, 0))), some (.int (i32 op)), some (.int (i32 d)), x] [.int (i32 n), .ref (ad (4, 0))] ad w := by
    intro n hn n1 n2 x
    have hn1 : 1 ≤ n ∧ n ≤ 10 := by rw [hn]; split <;> omega
    have es : shA op d A = A / 10 ^ n + (if 5 ≤ dgt A (n - 1) then 1 else 0) := by unfold shA; rw [if_neg n1, if_neg n2, ← hn]
    have hd9 := dgt_lt A (n - 1)
    have hlt : A / 10 ^ n < 10 ^ 19 := by
      rw [Nat.div_lt_iff_lt_mul (Nat.pow_pos (by decide))]
      refine Nat.lt_of_lt_of_le hA ?_
      rw [← Nat.pow_add]
      exact p_le (by omega)
    refine r_callV hk hR m_Acc_shiftRight s_Acc_shiftRight ml_Mach_210 (dk_at D_Mach_shift 28 rfl) (c_Acc_shiftRight G (b := n) h.a4 h.a5 hA hn1.2) ?_ (i := (4, 0)) (hw := h.a4)
    rw [if_neg (show ¬ n = 0 by omega)]
    refine r_gp (fun w => WW w0 ad w (c, g, t, A / 10 ^ n, mn, ov, dv, dm, nx, fl, q, qn, o, on, ln, m, r, p, fc)) h.accA (fun w h => ?_)
    have h0 := h.m0
    refine r_iconst hk (dk_at D_Mach_shift 29 rfl) ?_
    refine r_icmp_lt (t := 68) hk (dk_at D_Mach_shift 30 rfl) (by decide) (by omega) (by omega) (fun c_58 => ?_) (fun c_58 => ?_)
    · rw [if_neg (by omega), Nat.add_zero] at es
      exact fin _ _ (by rw [es]; exact h)
    · rw [if_pos (by omega)] at es
      refine r_aload_n (i := 0) hk (dk_at D_Mach_shift 31 rfl) rfl rfl ?_
      refine r_get hk fl_Mach_69 (dk_at D_Mach_shift 32 rfl) ?_
      refine r_callVv hk hR m_Acc_round s_Acc_round ml_Mach_213 (dk_at D_Mach_shift 33 rfl) (c_Acc_round G h.a4 h.a5 hlt) ?_ (i := (4, 0)) (hw := h.a4)
      exact fin _ _ (by rw [es]; exact h.accA)
  refine r_iload_n (i := 2) hk (dk_at D_Mach_shift 0 rfl) rfl rfl ?_
  refine r_bipush hk (dk_at D_Mach_shift 1 rfl) (by decide) ?_
  refine r_irem hk (dk_at D_Mach_shift 2 rfl) (by omega) (by omega) ?_
  refine r_topi (x' := ((d % 10 : Nat) : Int)) (by omega) ?_
  refine r_istore_n (i := 3) (ls' := [_, _, _, _]) hk (dk_at D_Mach_shift 3 rfl) rfl rfl rfl rfl ?_
  refine r_iload_n (i := 1) hk (dk_at D_Mach_shift 4 rfl) rfl rfl ?_
  refine r_bipush hk (dk_at D_Mach_shift 5 rfl) (by decide) ?_
  refine r_icmp_ne (t := 22) hk (dk_at D_Mach_shift 6 rfl) (by decide) (by omega) (by omega) (fun c_8 => ?_) (fun c_8 => ?_)
  · refine r_iload_n (i := 1) hk (dk_at D_Mach_shift 12 rfl) rfl rfl ?_
    refine r_bipush hk (dk_at D_Mach_shift 13 rfl) (by decide) ?_
    refine r_icmp_ne (t := 40) hk (dk_at D_Mach_shift 14 rfl) (by decide) (by omega) (by omega) (fun c_25 => ?_) (fun c_25 => ?_)
    · refine r_aload_n (i := 0) hk (dk_at D_Mach_shift 21 rfl) rfl rfl ?_
      refine r_get hk fl_Mach_69 (dk_at D_Mach_shift 22 rfl) ?_
      refine r_iload_n (i := 3) hk (dk_at D_Mach_shift 23 rfl) rfl rfl ?_
      refine r_if_ne (t := 53) hk (dk_at D_Mach_shift 24 rfl) (by decide) (by omega) (fun c_45 => ?_) (fun c_45 => ?_)
      · refine r_iload_n (i := 3) hk (dk_at D_Mach_shift 27 rfl) rfl rfl ?_
        first | exact last 10 (by rw [if_pos (by omega)]) (by omega) (by omega) _ | exact last (d % 10) (by rw [if_neg (by omega)]) (by omega) (by omega) _
      · refine r_bipush hk (dk_at D_Mach_shift 25 rfl) (by decide) ?_
        refine r_goto (t := 54) hk (dk_at D_Mach_shift 26 rfl) (by decide) ?_
        first | exact last 10 (by rw [if_pos (by omega)]) (by omega) (by omega) _ | exact last (d % 10) (by rw [if_neg (by omega)]) (by omega) (by omega) _
    · refine r_aload_n (i := 0) hk (dk_at D_Mach_shift 15 rfl) rfl rfl ?_
      refine r_get hk fl_Mach_69 (dk_at D_Mach_shift 16 rfl) ?_
      refine r_iload_n (i := 3) hk (dk_at D_Mach_shift 17 rfl) rfl rfl ?_
      refine r_callV hk hR m_Acc_shiftRight s_Acc_shiftRight ml_Mach_210 (dk_at D_Mach_shift 18 rfl) (c_Acc_shiftRight G (b := d % 10) h.a4 h.a5 hA (by omega)) ?_ (i := (4, 0)) (hw := h.a4)
      refine r_pop hk (dk_at D_Mach_shift 19 rfl) rfl ?_
      refine r_goto (t := 68) hk (dk_at D_Mach_shift 20 rfl) (by decide) ?_
      have es : shA op d A = A / 10 ^ (d % 10) := by unfold shA; rw [if_neg (by omega), if_pos (by omega)]
      exact fin _ _ (by rw [es]; exact h.accA)
  · refine r_aload_n (i := 0) hk (dk_at D_Mach_shift 7 rfl) rfl rfl ?_
    refine r_get hk fl_Mach_69 (dk_at D_Mach_shift 8 rfl) ?_
    refine r_iload_n (i := 3) hk (dk_at D_Mach_shift 9 rfl) rfl rfl ?_
    refine r_callVv hk hR m_Acc_shiftLeft s_Acc_shiftLeft ml_Mach_207 (dk_at D_Mach_shift 10 rfl) (c_Acc_shiftLeft G (b := d % 10) h.a4 h.a5 (by omega)) ?_ (i := (4, 0)) (hw := h.a4)
    refine r_goto (t := 68) hk (dk_at D_Mach_shift 11 rfl) (by decide) ?_
    have es : shA op d A = A * 10 ^ (d % 10) % 10 ^ 20 := by unfold shA; rw [if_pos (by omega)]
    exact fin _ _ (by rw [es]; exact h.accA)
def brB (op A : Nat) (mn ov : Bool) (dv : Nat) : Bool := if op = 44 then decide (A / 10 ^ 10 ≠ 0) else if op = 45 then decide (A ≠ 0) else if op = 46 then mn else if op = 47 then ov else decide (dgt dv (op - 90) = 8)
def brO (op : Nat) (ov : Bool) : Bool := if op = 47 then false else ov
theorem c_Mach_branches (G : Gt) {w0 w : Wt} {ad : Ix → Nat} {c : Nat → Nat → Nat} {g : Nat → Bool} {t : Nat} {A : Nat} {mn : Bool} {ov : Bool} {dv : Nat} {dm : Bool} {nx : Nat} {fl : Int} {q : Nat → Nat × Bool} {qn : Nat} {o : Nat → Nat × Bool} {on : Nat} {ln : Nat → Int × Int × Int × Int} {m : Nat} {r : Nat → Bool} {p : Nat → Int} {fc : Nat} {op : Nat} (h : WW w0 ad w (c, g, t, A, mn, ov, dv, dm, nx, fl, q, qn, o, on, ln, m, r, p, fc)) (hA : A < 10 ^ 20) (hop : (44 ≤ op ∧ op ≤ 47) ∨ (90 ≤ op ∧ op ≤ 99)) : Mt G y_Mach_branches w_Mach_branches 1 0 0 [.ref (ad (0, 0)), .int (i32 op)] ad w (fun v ad' w' => v = some (.int (i32 (b2i (brB op A mn ov dv)))) ∧ ad' = ad ∧ WW w0 ad w' (c, g, t, A, mn, brO op ov, dv, dm, nx, fl, q, qn, o, on, ln, m, r, p, fc)) noT := by
  refine Mt.to [some (.ref (ad (0, 0))), some (.int (i32 op)), none] (fun K hk hR hin => ?_)
  have h0 := h.m0
  have h4 := h.a4
  have ht := h.t10
  have ht1 := ht.1
  have ht2 := ht.2
  refine r_iload_n (i := 1) hk (dk_at D_Mach_branches 0 rfl) rfl rfl ?_
  by_cases hi : op ≤ 47
  · by_cases e44 : op = 44
    · subst e44
      refine r_tableIn (t := 32) (off := 31) hk (dk_at D_Mach_branches 1 rfl) (by omega) (by omega) (by omega) rfl (by decide) ?_
      refine r_aload_n (i := 0) hk (dk_at D_Mach_branches 2 rfl) rfl rfl ?_
      refine r_get hk fl_Mach_69 (dk_at D_Mach_branches 3 rfl) ?_
      refine r_bipush hk (dk_at D_Mach_branches 4 rfl) (by decide) ?_
      refine r_callV hk hR m_Acc_isZero s_Acc_isZero ml_Mach_216 (dk_at D_Mach_branches 5 rfl) (c_Acc_isZero G (a := 10) h.a4 h.a5 hA (by decide)) ?_ (i := (4, 0)) (hw := h.a4)
      refine r_if_neB (t := 48) hk (dk_at D_Mach_branches 6 rfl) (by decide) (fun c_41 => ?_) (fun c_41 => ?_)
      · have e : brB 44 A mn ov dv = false := decide_eq_false (fun z => z (of_decide_eq_true c_41))
        rw [e]
        refine r_iconst hk (dk_at D_Mach_branches 9 rfl) ?_
        first | exact r_bret (b := true) hk (dk_at D_Mach_branches 10 rfl) ⟨rfl, rfl, h⟩ | exact r_bret (b := false) hk (dk_at D_Mach_branches 10 rfl) ⟨rfl, rfl, h⟩
      · have e : brB 44 A mn ov dv = true := decide_eq_true (of_decide_eq_false c_41)
        rw [e]
        refine r_iconst hk (dk_at D_Mach_branches 7 rfl) ?_
        refine r_goto (t := 49) hk (dk_at D_Mach_branches 8 rfl) (by decide) ?_
        first | exact r_bret (b := true) hk (dk_at D_Mach_branches 10 rfl) ⟨rfl, rfl, h⟩ | exact r_bret (b := false) hk (dk_at D_Mach_branches 10 rfl) ⟨rfl, rfl, h⟩
    by_cases e45 : op = 45
    · subst e45
      refine r_tableIn (t := 50) (off := 49) hk (dk_at D_Mach_branches 1 rfl) (by omega) (by omega) (by omega) rfl (by decide) ?_
      refine r_aload_n (i := 0) hk (dk_at D_Mach_branches 11 rfl) rfl rfl ?_
      refine r_get hk fl_Mach_69 (dk_at D_Mach_branches 12 rfl) ?_
      refine r_iconst hk (dk_at D_Mach_branches 13 rfl) ?_
      refine r_callV hk hR m_Acc_isZero s_Acc_isZero ml_Mach_216 (dk_at D_Mach_branches 14 rfl) (c_Acc_isZero G (a := 0) h.a4 h.a5 hA (by decide)) ?_ (i := (4, 0)) (hw := h.a4)
      rw [show A / 10 ^ 0 = A by simp]
      refine r_if_neB (t := 65) hk (dk_at D_Mach_branches 15 rfl) (by decide) (fun c_58 => ?_) (fun c_58 => ?_)
      · have e : brB 45 A mn ov dv = false := decide_eq_false (fun z => z (of_decide_eq_true c_58))
        rw [e]
        refine r_iconst hk (dk_at D_Mach_branches 18 rfl) ?_
        first | exact r_bret (b := true) hk (dk_at D_Mach_branches 19 rfl) ⟨rfl, rfl, h⟩ | exact r_bret (b := false) hk (dk_at D_Mach_branches 19 rfl) ⟨rfl, rfl, h⟩
      · have e : brB 45 A mn ov dv = true := decide_eq_true (of_decide_eq_false c_58)
        rw [e]
        refine r_iconst hk (dk_at D_Mach_branches 16 rfl) ?_
        refine r_goto (t := 66) hk (dk_at D_Mach_branches 17 rfl) (by decide) ?_
        first | exact r_bret (b := true) hk (dk_at D_Mach_branches 19 rfl) ⟨rfl, rfl, h⟩ | exact r_bret (b := false) hk (dk_at D_Mach_branches 19 rfl) ⟨rfl, rfl, h⟩
    by_cases e46 : op = 46
    · subst e46
      refine r_tableIn (t := 67) (off := 66) hk (dk_at D_Mach_branches 1 rfl) (by omega) (by omega) (by omega) rfl (by decide) ?_
      refine r_aload_n (i := 0) hk (dk_at D_Mach_branches 20 rfl) rfl rfl ?_
      refine r_get hk fl_Mach_69 (dk_at D_Mach_branches 21 rfl) ?_
      refine r_getN hk fl_Mach_219 (dk_at D_Mach_branches 22 rfl) ?_
      exact r_bret (b := mn) hk (dk_at D_Mach_branches 23 rfl) ⟨rfl, rfl, h⟩
    obtain rfl : op = 47 := by omega
    refine r_tableIn (t := 75) (off := 74) hk (dk_at D_Mach_branches 1 rfl) (by omega) (by omega) (by omega) rfl (by decide) ?_
    refine r_aload_n (i := 0) hk (dk_at D_Mach_branches 24 rfl) rfl rfl ?_
    refine r_get hk fl_Mach_69 (dk_at D_Mach_branches 25 rfl) ?_
    refine r_getN hk fl_Mach_129 (dk_at D_Mach_branches 26 rfl) ?_
    refine r_istore_n (i := 2) (ls' := [_, _, _]) hk (dk_at D_Mach_branches 27 rfl) rfl rfl rfl rfl ?_
    refine r_aload_n (i := 0) hk (dk_at D_Mach_branches 28 rfl) rfl rfl ?_
    refine r_get hk fl_Mach_69 (dk_at D_Mach_branches 29 rfl) ?_
    refine r_iconst hk (dk_at D_Mach_branches 30 rfl) ?_
    refine r_putN (fs' := [_, _, _, _, _]) hk fl_Mach_129 ft_Acc_2 (dk_at D_Mach_branches 31 rfl) ?_ (hn := rfl) (hfit := rfl)
    refine r_iload_n (i := 2) hk (dk_at D_Mach_branches 32 rfl) rfl rfl ?_
    exact r_bret (b := ov) hk (dk_at D_Mach_branches 33 rfl) ⟨rfl, rfl, h.acc (mn' := mn) (ov' := false)⟩
  · refine r_tableOut (t := 93) hk (dk_at D_Mach_branches 1 rfl) (by omega) (by omega) (by decide) ?_
    have eO : brO op ov = ov := if_neg (by omega)
    have eB : brB op A mn ov dv = decide (dgt dv (op - 90) = 8) := by unfold brB; rw [if_neg (by omega), if_neg (by omega), if_neg (by omega), if_neg (by omega)]
    rw [eB, eO]
    have hdg := dgt_lt dv (op - 90)
    refine r_aload_n (i := 0) hk (dk_at D_Mach_branches 34 rfl) rfl rfl ?_
    refine r_get hk fl_Mach_76 (dk_at D_Mach_branches 35 rfl) ?_
    refine r_getN hk fl_Mach_170 (dk_at D_Mach_branches 36 rfl) ?_
    refine r_iload_n (i := 1) hk (dk_at D_Mach_branches 37 rfl) rfl rfl ?_
    refine r_bipush hk (dk_at D_Mach_branches 38 rfl) (by decide) ?_
    refine r_isub hk (dk_at D_Mach_branches 39 rfl) ?_
    refine r_iaload (ix := (op - 90)) hk (dk_at D_Mach_branches 40 rfl) ?_
    refine r_bipush hk (dk_at D_Mach_branches 41 rfl) (by decide) ?_
    refine r_icmp_ne (t := 114) hk (dk_at D_Mach_branches 42 rfl) (by decide) (by omega) (by omega) (fun c_107 => ?_) (fun c_107 => ?_)
    · rw [decide_eq_false (show ¬ dgt dv (op - 90) = 8 by omega)]
      refine r_iconst hk (dk_at D_Mach_branches 45 rfl) ?_
      first | exact r_bret (b := true) hk (dk_at D_Mach_branches 46 rfl) ⟨rfl, rfl, h⟩ | exact r_bret (b := false) hk (dk_at D_Mach_branches 46 rfl) ⟨rfl, rfl, h⟩
    · rw [decide_eq_true (show dgt dv (op - 90) = 8 by omega)]
      refine r_iconst hk (dk_at D_Mach_branches 43 rfl) ?_
      refine r_goto (t := 115) hk (dk_at D_Mach_branches 44 rfl) (by decide) ?_
      first | exact r_bret (b := true) hk (dk_at D_Mach_branches 46 rfl) ⟨rfl, rfl, h⟩ | exact r_bret (b := false) hk (dk_at D_Mach_branches 46 rfl) ⟨rfl, rfl, h⟩
def lk (c : Nat → Nat → Nat) (dv : Nat) : Nat → Nat → Nat → Bool → Nat × Int × Nat
  | 0, _, t, _ => (t, 5, 0)
  | n + 1, a, t, b => if vld (c a) = true then (if val (c a) < dv then lk c dv n (a + 1) (t + cond b 1 0) true else (t + cond b 1 0, -1, a)) else (t + cond b 1 0, 1, 0)
def lkA (R : Nat × Int × Nat) (A : Nat) : Nat := if R.2.1 = -1 then sad A R.2.2 else A
theorem c_Mach_look (G : Gt) {w0 w : Wt} {ad : Ix → Nat} {c : Nat → Nat → Nat} {g : Nat → Bool} {t : Nat} {A : Nat} {mn : Bool} {ov : Bool} {dv : Nat} {dm : Bool} {nx : Nat} {fl : Int} {q : Nat → Nat × Bool} {qn : Nat} {o : Nat → Nat × Bool} {on : Nat} {ln : Nat → Int × Int × Int × Int} {m : Nat} {r : Nat → Bool} {p : Nat → Int} {fc : Nat} {s : Nat} (h : WW w0 ad w (c, g, t, A, mn, ov, dv, dm, nx, fl, q, qn, o, on, ln, m, r, p, fc)) (hc : ∀ a k, c a k < 128) (hdv : dv < 10 ^ 10) (hs : s < 200) {R : Nat × Int × Nat} (hRR : lk c dv (50 - s % 50) s t false = R) : Mt G y_Mach_look w_Mach_look 3 0 0 [.ref (ad (0, 0)), .int (i32 s)] ad w (fun v ad' w' => v = some (.int (i32 R.2.1)) ∧ ad' = ad ∧ WW w0 ad w' (c, g, R.1, lkA R A, mn, ov, dv, dm, nx, fl, q, qn, o, on, ln, m, r, p, fc)) noT := by
  refine Mt.to [some (.ref (ad (0, 0))), some (.int (i32 s)), none, none, none] (fun K hk hR hin => ?_)
  have loop : ∀ n : Nat, ∀ (a t : Nat) (b : Bool) (w : Wt) (x y : Int), a + n = s - s % 50 + 50 → s ≤ a → b = decide (s < a) → WW w0 ad w (c, g, t, A, mn, ov, dv, dm, nx, fl, q, qn, o, on, ln, m, r, p, fc) → lk c dv n a t b = R → x = ((s - s % 50 + 50 : Nat) : Int) → y = (a : Int) → V G K 5 (QE G K (fun v ad' w' => v = some (.int (i32 R.2.1)) ∧ ad' = ad ∧ WW w0 ad w' (c, g, R.1, lkA R A, mn, ov, dv, dm, nx, fl, q, qn, o, on, ln, m, r, p, fc)) noT 0 0) 0 0 12 [some (.ref (ad (0, 0))), some (.int (i32 s)), some (.int (i32 x)), some (.int (i32 y)), none] [] ad w := by
    intro n
    induction n with
    | zero =>
      intro a t b w x y han has hb h hl hx hy
      have hR1 : R = (t, 5, 0) := hl.symm
      refine r_iload_n (i := 3) hk (dk_at D_Mach_look 10 rfl) rfl rfl ?_
      refine r_iload_n (i := 2) hk (dk_at D_Mach_look 11 rfl) rfl rfl ?_
      refine r_icmp_ge (t := 136) hk (dk_at D_Mach_look 12 rfl) (by decide) (by omega) (by omega) (fun c_14 => ?_) (fun c_14 => ?_)
      · refine r_iconst hk (dk_at D_Mach_look 71 rfl) ?_
        exact r_iret hk (dk_at D_Mach_look 72 rfl) ⟨by rw [hR1], rfl, by rw [hR1]; exact h⟩
      · exact absurd c_14 (by omega)
    | succ n ih =>
      intro a t b w x y han has hb h hl hx hy
      have h0 := h.m0
      have mid : ∀ w : Wt, WW w0 ad w (c, g, t + cond b 1 0, A, mn, ov, dv, dm, nx, fl, q, qn, o, on, ln, m, r, p, fc) → V G K 5 (QE G K (fun v ad' w' => v = some (.int (i32 R.2.1)) ∧ ad' = ad ∧ WW w0 ad w' (c, g, R.1, lkA R A, mn, ov, dv, dm, nx, fl, q, qn, o, on, ln, m, r, p, fc)) noT 0 0) 0 0 30 [some (.ref (ad (0, 0))), some (.int (i32 s)), some (.int (i32 x)), some (.int (i32 y)), none] [] ad w := by
        intro w h
        have h0 := h.m0
        have ha : a < 200 := by omega
        subst hy
        refine r_aload_n (i := 0) hk (dk_at D_Mach_look 20 rfl) rfl rfl ?_
        refine r_get hk fl_Mach_62 (dk_at D_Mach_look 21 rfl) ?_
        refine r_iload_n (i := 3) hk (dk_at D_Mach_look 22 rfl) rfl rfl ?_
        refine r_callV hk hR m_Drum_isValid s_Drum_isValid ml_Mach_147 (dk_at D_Mach_look 23 rfl) (c_Drum_isValid G h.d1 h.d2 (h.d3 ha) ha (fun k _ => hc a k)) ?_ (i := (1, 0)) (hw := h.d1)
        refine r_if_neB (t := 43) hk (dk_at D_Mach_look 24 rfl) (by decide) (fun c_38 => ?_) (fun c_38 => ?_)
        · obtain ⟨x14, f14, e14, e15⟩ := h.s14
          refine r_aload_n (i := 0) hk (dk_at D_Mach_look 27 rfl) rfl rfl ?_
          refine r_get hk fl_Mach_62 (dk_at D_Mach_look 28 rfl) ?_
          refine r_iload_n (i := 3) hk (dk_at D_Mach_look 29 rfl) rfl rfl ?_
          refine r_aload_n (i := 0) hk (dk_at D_Mach_look 30 rfl) rfl rfl ?_
          refine r_get hk fl_Mach_83 (dk_at D_Mach_look 31 rfl) ?_
          refine r_callVv hk hR m_Drum_fetch s_Drum_fetch ml_Mach_151 (dk_at D_Mach_look 32 rfl) (c_Drum_fetch G h.d1 h.d2 (h.d3 ha) ha (fun k _ => hc a k) c_38 e14 e15) ?_ (i := (1, 0)) (hw := h.d1)
          refine r_gp (fun w => WW w0 ad w (c, g, t + cond b 1 0, A, mn, ov, dv, dm, nx, fl, q, qn, o, on, ln, m, r, p, fc) ∧ tW ad w (14, 0) (15, 0) (val (c a)) (g a)) ⟨h.read, up_s, (up_n (by intro e; cases e)).trans up_s⟩ (fun w h => ?_)
          obtain ⟨h, h14⟩ := h
          have h0 := h.m0
          have ht := h.t10
          refine r_aload_n (i := 0) hk (dk_at D_Mach_look 33 rfl) rfl rfl ?_
          refine r_get hk fl_Mach_83 (dk_at D_Mach_look 34 rfl) ?_
          refine r_aload_n (i := 0) hk (dk_at D_Mach_look 35 rfl) rfl rfl ?_
          refine r_get hk fl_Mach_76 (dk_at D_Mach_look 36 rfl) ?_
          refine r_callV hk hR m_Word_isBelow s_Word_isBelow ml_Mach_155 (dk_at D_Mach_look 37 rfl) (c_Word_isBelow G h14.1 h14.2 (val_lt _) ht.1 ht.2 hdv) ?_ (i := (14, 0)) (hw := h14.1)
          refine r_if_eqB (t := 72) hk (dk_at D_Mach_look 38 rfl) (by decide) (fun c_66 => ?_) (fun c_66 => ?_)
          · have hR1 : R = (t + cond b 1 0, -1, a) := by rw [← hl]; unfold lk; rw [if_pos c_38, if_neg (of_decide_eq_false c_66)]
            have h14a := h14.1
            have h14b := h14.2
            refine r_aload_n (i := 0) hk (dk_at D_Mach_look 40 rfl) rfl rfl ?_
            refine r_get hk fl_Mach_69 (dk_at D_Mach_look 41 rfl) ?_
            refine r_iconst hk (dk_at D_Mach_look 42 rfl) ?_
            refine r_aload_n (i := 0) hk (dk_at D_Mach_look 43 rfl) rfl rfl ?_
            refine r_get hk fl_Mach_83 (dk_at D_Mach_look 44 rfl) ?_
            refine r_callVv hk hR m_Acc_half s_Acc_half ml_Mach_159 (dk_at D_Mach_look 45 rfl) (c_Acc_half G (u := false) h.a4 h.a5 h14.1 h14.2) ?_ (i := (4, 0)) (hw := h.a4)
            refine r_gp (fun w => WW w0 ad w (c, g, t + cond b 1 0, A, mn, ov, dv, dm, nx, fl, q, qn, o, on, ln, m, r, p, fc) ∧ tW ad w (14, 0) (15, 0) (A % 10 ^ 10) mn) ⟨h.read, up_s, (up_n (by intro e; cases e)).trans up_s⟩ (fun w h => ?_)
            obtain ⟨h, h14⟩ := h
            have h0 := h.m0
            have h14a := h14.1
            refine r_aload_n (i := 0) hk (dk_at D_Mach_look 46 rfl) rfl rfl ?_
            refine r_get hk fl_Mach_83 (dk_at D_Mach_look 47 rfl) ?_
            refine r_iload_n (i := 3) hk (dk_at D_Mach_look 48 rfl) rfl rfl ?_
            refine r_callVv hk hR m_Word_setAddress s_Word_setAddress ml_Mach_163 (dk_at D_Mach_look 49 rfl) (c_Word_setAddress G (a := a) (i := (14, 0)) (j := (15, 0)) h14.1 h14.2 (by omega)) ?_ (i := (14, 0)) (hw := h14.1)
            refine r_gp (fun w => WW w0 ad w (c, g, t + cond b 1 0, A, mn, ov, dv, dm, nx, fl, q, qn, o, on, ln, m, r, p, fc) ∧ tW ad w (14, 0) (15, 0) (sad (A % 10 ^ 10) a) mn) ⟨h.readD, (up_n (by intro e; cases e)).trans h14.1, up_s⟩ (fun w h => ?_)
            obtain ⟨h, h14⟩ := h
            have h0 := h.m0
            have h4 := h.a4
            have h14a := h14.1
            have h14b := h14.2
            have cp : ∀ k : Nat, k ≤ 4 → ∀ (u : Int) (f : Nat → Value), u = (k : Int) + 4 → (∀ j, j < k + 4 → f j = dg (sad A a) j) → (∀ j, k + 4 ≤ j → f j = dg A j) → V G K 5 (QE G K (fun v ad' w' => v = some (.int (i32 R.2.1)) ∧ ad' = ad ∧ WW w0 ad w' (c, g, R.1, lkA R A, mn, ov, dv, dm, nx, fl, q, qn, o, on, ln, m, r, p, fc)) noT 0 0) 0 0 95 [some (.ref (ad (0, 0))), some (.int (i32 s)), some (.int (i32 x)), some (.int (i32 (a : Nat))), some (.int (i32 u))] [] ad (up w (5, 0) (some (.inr (0, 20, f)))) := by
              refine nup 4 (fun k hk4 ih2 u f hu hf hg => ?_)
              refine r_iload (i := 4) hk (dk_at D_Mach_look 52 rfl) rfl ?_
              refine r_bipush hk (dk_at D_Mach_look 53 rfl) (by decide) ?_
              refine r_icmp_ge (t := 128) hk (dk_at D_Mach_look 54 rfl) (by decide) (by omega) (by omega) (fun c_99 => ?_) (fun c_99 => ?_)
              · obtain rfl : k = 4 := by omega
                refine r_arr (g := dg (sad A a)) (fun j hj => ?_) ?_
                · by_cases e : j < 4 + 4
                  · exact hf j e
                  · rw [hg j (by omega)]; exact dg_eq (by rw [sad_hi _ _ j (by omega) (by omega)])
                refine r_iconst hk (dk_at D_Mach_look 67 rfl) ?_
                exact r_iret hk (dk_at D_Mach_look 68 rfl) ⟨by rw [hR1], rfl, by rw [hR1]; exact h.accA⟩
              · refine r_aload_n (i := 0) hk (dk_at D_Mach_look 55 rfl) rfl rfl ?_
                refine r_get hk fl_Mach_69 (dk_at D_Mach_look 56 rfl) ?_ (hw := (up_n (by intro e; cases e)).trans h0)
                refine r_getN hk fl_Mach_166 (dk_at D_Mach_look 57 rfl) ?_ (hw := (up_n (by intro e; cases e)).trans h4)
                refine r_iload (i := 4) hk (dk_at D_Mach_look 58 rfl) rfl ?_
                refine r_aload_n (i := 0) hk (dk_at D_Mach_look 59 rfl) rfl rfl ?_
                refine r_get hk fl_Mach_83 (dk_at D_Mach_look 60 rfl) ?_ (hw := (up_n (by intro e; cases e)).trans h0)
                refine r_getN hk fl_Mach_170 (dk_at D_Mach_look 61 rfl) ?_ (hw := (up_n (by intro e; cases e)).trans h14a)
                refine r_iload (i := 4) hk (dk_at D_Mach_look 62 rfl) rfl ?_
                refine r_iaload (ix := (k + 4)) hk (dk_at D_Mach_look 63 rfl) ?_ (hw := (up_n (by intro e; cases e)).trans h14b)
                refine r_iastoreU (ix := (k + 4)) hk (dk_at D_Mach_look 64 rfl) ?_
                refine r_iinc (i := 4) (ls' := [_, _, _, _, _]) hk (dk_at D_Mach_look 65 rfl) rfl rfl rfl rfl ?_
                refine r_goto (t := 95) hk (dk_at D_Mach_look 66 rfl) (by decide) ?_
                refine ih2 (by omega) _ _ (by omega) ?_ (fun j hj => ?_)
                · rw [show k + 1 + 4 = k + 4 + 1 by omega]
                  refine ext_s hf (dg_eq ?_)
                  rw [sad_dgt _ _ k (by omega) (by omega), sad_dgt _ _ k (by omega) (by omega)]
                · rw [updV_n (by omega)]; exact hg j (by omega)
            refine r_iconst hk (dk_at D_Mach_look 50 rfl) ?_
            refine r_istore (i := 4) (ls' := [_, _, _, _, _]) hk (dk_at D_Mach_look 51 rfl) rfl rfl rfl ?_
            refine r_in h.a5 ?_
            exact cp 0 (by decide) _ _ rfl (fun j hj => (dg_eq (by rw [sad_lo _ _ j (by omega)])).symm) (fun j hj => rfl)
          · refine r_goto (t := 130) hk (dk_at D_Mach_look 39 rfl) (by decide) ?_
            refine r_iinc (i := 3) (ls' := [_, _, _, _, _]) hk (dk_at D_Mach_look 69 rfl) rfl rfl rfl rfl ?_
            refine r_goto (t := 12) hk (dk_at D_Mach_look 70 rfl) (by decide) ?_
            refine ih (a + 1) (t + cond b 1 0) true w _ _ (by omega) (by omega) (decide_eq_true (by omega)).symm h ?_ hx (by omega)
            rw [← hl]
            conv => rhs; unfold lk
            rw [if_pos c_38, if_pos (of_decide_eq_true c_66)]
        · have hR1 : R = (t + cond b 1 0, 1, 0) := by rw [← hl]; unfold lk; rw [if_neg (by rw [c_38]; decide)]
          refine r_iconst hk (dk_at D_Mach_look 25 rfl) ?_
          exact r_iret hk (dk_at D_Mach_look 26 rfl) ⟨by rw [hR1], rfl, by rw [hR1]; exact h⟩
      refine r_iload_n (i := 3) hk (dk_at D_Mach_look 10 rfl) rfl rfl ?_
      refine r_iload_n (i := 2) hk (dk_at D_Mach_look 11 rfl) rfl rfl ?_
      refine r_icmp_ge (t := 136) hk (dk_at D_Mach_look 12 rfl) (by decide) (by omega) (by omega) (fun c_14 => ?_) (fun c_14 => ?_)
      · exact absurd c_14 (by omega)
      · refine r_iload_n (i := 3) hk (dk_at D_Mach_look 13 rfl) rfl rfl ?_
        refine r_iload_n (i := 1) hk (dk_at D_Mach_look 14 rfl) rfl rfl ?_
        refine r_icmp_le (t := 30) hk (dk_at D_Mach_look 15 rfl) (by decide) (by omega) (by omega) (fun c_19 => ?_) (fun c_19 => ?_)
        · have eb : b = false := by rw [hb]; exact decide_eq_false (by omega)
          subst eb
          exact mid w h
        · refine r_aload_n (i := 0) hk (dk_at D_Mach_look 16 rfl) rfl rfl ?_
          refine r_get hk fl_Mach_62 (dk_at D_Mach_look 17 rfl) ?_
          refine r_iconst hk (dk_at D_Mach_look 18 rfl) ?_
          refine r_callVv hk hR m_Drum_pass s_Drum_pass ml_Mach_143 (dk_at D_Mach_look 19 rfl) (c_Drum_pass G (n := 1) h.d1 (by decide)) ?_ (i := (1, 0)) (hw := h.d1)
          have eb : b = true := by rw [hb]; exact decide_eq_true (by omega)
          subst eb
          exact mid _ h.time
  refine r_iload_n (i := 1) hk (dk_at D_Mach_look 0 rfl) rfl rfl ?_
  refine r_iload_n (i := 1) hk (dk_at D_Mach_look 1 rfl) rfl rfl ?_
  refine r_bipush hk (dk_at D_Mach_look 2 rfl) (by decide) ?_
  refine r_irem hk (dk_at D_Mach_look 3 rfl) (by omega) (by omega) ?_
  refine r_isub hk (dk_at D_Mach_look 4 rfl) ?_
  refine r_bipush hk (dk_at D_Mach_look 5 rfl) (by decide) ?_
  refine r_iadd hk (dk_at D_Mach_look 6 rfl) ?_
  refine r_istore_n (i := 2) (ls' := [_, _, _, _, _]) hk (dk_at D_Mach_look 7 rfl) rfl rfl rfl rfl ?_
  refine r_iload_n (i := 1) hk (dk_at D_Mach_look 8 rfl) rfl rfl ?_
  refine r_istore_n (i := 3) (ls' := [_, _, _, _, _]) hk (dk_at D_Mach_look 9 rfl) rfl rfl rfl rfl ?_
  exact loop (50 - s % 50) s t false w _ _ (by omega) (Nat.le_refl _) (decide_eq_false (by omega)).symm h hRR (by omega) rfl
