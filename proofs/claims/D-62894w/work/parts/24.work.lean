/-! DrumMachine: work, access, step -/
def sb (op : Nat) : Bool := decide (op = 11) || decide (op = 16) || decide (op = 61) || decide (op = 66)
def wkA0 (k A : Nat) : Nat := if k = 3 then 0 else A
def wkM0 (k : Nat) (mn : Bool) : Bool := if k = 3 then false else mn
def wkP (op : Nat) : Nat := if op % 10 < 5 then 10 else 0
def wkS (op : Nat) (sg : Bool) : Bool := decide (op ≠ 67) && (sg ^^ sb op)
def wrk (k op v : Nat) (sg : Bool) : St → St × Int
  | (c, g, t, A, mn, ov, dv, dm, nx, fl, q, qn, o, on, ln, m, r, p, fc) => if k = 2 ∨ k = 3 then ((c, g, t + 2, adA (wkA0 k A) (v * 10 ^ wkP op) (wkS op sg == wkM0 k mn), adM (wkA0 k A) (v * 10 ^ wkP op) (wkM0 k mn) (wkS op sg == wkM0 k mn), adO (wkA0 k A) (v * 10 ^ wkP op) ov (wkS op sg == wkM0 k mn), v, sg, nx, fl, q, qn, o, on, ln, m, r, p, fc), -1) else if k = 5 then ((c, g, t + (20 + 2 * ds (A / 10 ^ 10) 10), A / 10 ^ 10 * v + A % 10 ^ 10, (mn ^^ sg), ov, v, sg, nx, fl, q, qn, o, on, ln, m, r, p, fc), -1) else if k = 6 then (if A / 10 ^ 10 < v then ((c, g, t + (20 + 2 * ds (A / v) 10), A % v * 10 ^ 10 + A / v, (mn ^^ sg), ov, v, sg, nx, fl, q, qn, o, on, ln, m, r, p, fc), -1) else ((c, g, t, A, mn, true, dv, dm, nx, fl, q, qn, o, on, ln, m, r, p, fc), 3)) else if k = 10 then (if on = 40 then ((c, g, t, A, mn, ov, dv, dm, nx, fl, q, qn, o, on, ln, m, r, p, fc), 4) else ((c, g, t + 10, A, mn, ov, v, sg, nx, fl, q, qn, fu_ o on (v, sg), on + 1, ln, m, r, p, fc), -1)) else ((c, g, t, A, mn, ov, v, sg, nx, fl, q, qn, o, on, ln, m, r, p, fc), -1)
theorem WW.outp {w0 w : Wt} {ad : Ix → Nat} {c : Nat → Nat → Nat} {g : Nat → Bool} {t : Nat} {A : Nat} {mn : Bool} {ov : Bool} {dv : Nat} {dm : Bool} {nx : Nat} {fl : Int} {q : Nat → Nat × Bool} {qn : Nat} {o : Nat → Nat × Bool} {on : Nat} {ln : Nat → Int × Int × Int × Int} {m : Nat} {r : Nat → Bool} {p : Nat → Int} {fc : Nat} {v : Nat} {sg : Bool} (h : WW w0 ad w (c, g, t, A, mn, ov, dv, dm, nx, fl, q, qn, o, on, ln, m, r, p, fc)) (h40 : on < 40) : WW w0 ad (up (up (up w (26, on) (some (da v))) (25, on) (some (wo ad (26, on) sg))) (0, 0) (some (mO ad fc qn (on + 1) nx fl))) (c, g, t, A, mn, ov, dv, dm, nx, fl, q, qn, fu_ o on (v, sg), on + 1, ln, m, r, p, fc) := by
  obtain ⟨h0, h1, h2, h3, h4, h5, h7, h8⟩ := h
  have hn : ∀ x : Ix, x ≠ (26, on) → x ≠ (25, on) → x ≠ (0, 0) → up (up (up w (26, on) (some (da v))) (25, on) (some (wo ad (26, on) sg))) (0, 0) (some (mO ad fc qn (on + 1) nx fl)) x = w x := fun x a b d => (up_n d).trans ((up_n b).trans (up_n a))
  have e2 : ∀ lo hi, (Nat.blt 26 lo || Nat.blt hi 26) = true → (Nat.blt 25 lo || Nat.blt hi 25) = true → (Nat.blt 0 lo || Nat.blt hi 0) = true → eqOn lo hi w (up (up (up w (26, on) (some (da v))) (25, on) (some (wo ad (26, on) sg))) (0, 0) (some (mO ad fc qn (on + 1) nx fl))) := fun lo hi a b d x y => (eqOn.up d x y).trans ((eqOn.up b x y).trans (eqOn.up a x y))
  have own : tW ad (up (up (up w (26, on) (some (da v))) (25, on) (some (wo ad (26, on) sg))) (0, 0) (some (mO ad fc qn (on + 1) nx fl))) (25, on) (26, on) v sg := ⟨(up_n (by intro e; cases e)).trans up_s, (up_n (by intro e; cases e)).trans ((up_n (by intro e; cases e)).trans up_s)⟩
  have oth : ∀ k, k ≠ on → ∀ f, f = 25 ∨ f = 26 → up (up (up w (26, on) (some (da v))) (25, on) (some (wo ad (26, on) sg))) (0, 0) (some (mO ad fc qn (on + 1) nx fl)) (f, k) = w (f, k) := fun k hk f hf => hn _ (fun e => hk (congrArg Prod.snd e)) (fun e => hk (congrArg Prod.snd e)) (fun e => by have := congrArg Prod.fst e; simp only at this; omega)
  refine ⟨fun i hi => (hn i (fun e => by subst e; revert hi; show ¬ 28 ≤ 26; decide) (fun e => by subst e; revert hi; show ¬ 28 ≤ 25; decide) (fun e => by subst e; revert hi; decide)).trans (h0 i hi), h1.fr (e2 _ _ rfl rfl rfl), h2.fr (e2 _ _ rfl rfl rfl), h3.fr (e2 _ _ rfl rfl rfl), ⟨(hn _ (by intro e; cases e) (by intro e; cases e) (by intro e; cases e)).trans h4.1, fun k hk => ?_, fun k hk => ?_⟩, h5.fr (e2 _ _ rfl rfl rfl) (e2 _ _ rfl rfl rfl), up_s, h8.fr (e2 _ _ rfl rfl rfl)⟩
  · by_cases e : k = on
    · subst e; exact own.s
    · exact (h4.2.1 k hk).fr (oth k e 25 (Or.inl rfl)) (oth k e 26 (Or.inr rfl))
  · by_cases e : k = on
    · subst e; rw [fu_s]; exact own
    · rw [fu_n e]; exact (h4.2.2 k (by omega)).fr (oth k e 25 (Or.inl rfl)) (oth k e 26 (Or.inr rfl))
theorem c_Mach_work (G : Gt) {w0 w : Wt} {ad : Ix → Nat} {c : Nat → Nat → Nat} {g : Nat → Bool} {t : Nat} {A : Nat} {mn : Bool} {ov : Bool} {dv : Nat} {dm : Bool} {nx : Nat} {fl : Int} {q : Nat → Nat × Bool} {qn : Nat} {o : Nat → Nat × Bool} {on : Nat} {ln : Nat → Int × Int × Int × Int} {m : Nat} {r : Nat → Bool} {p : Nat → Int} {fc : Nat} {k op v : Nat} {sg : Bool} (h : WW w0 ad w (c, g, t, A, mn, ov, dv, dm, nx, fl, q, qn, o, on, ln, m, r, p, fc)) (h14 : tW ad w (14, 0) (15, 0) v sg) (hv : v < 10 ^ 10) (hA : A < 10 ^ 20) (hon : on ≤ 40) (hop : op < 100) (hk6 : k = 2 ∨ k = 3 ∨ k = 4 ∨ k = 5 ∨ k = 6 ∨ k = 10) : Mt G y_Mach_work w_Mach_work 2 0 0 [.ref (ad (0, 0)), .ref (G.2.2.2.1 k), .int (i32 op)] ad w (fun rv ad' w' => rv = some (.int (i32 (wrk k op v sg (c, g, t, A, mn, ov, dv, dm, nx, fl, q, qn, o, on, ln, m, r, p, fc)).2)) ∧ ad' = ad ∧ WW w0 ad w' (wrk k op v sg (c, g, t, A, mn, ov, dv, dm, nx, fl, q, qn, o, on, ln, m, r, p, fc)).1) noT := by
  refine Mt.to [some (.ref (ad (0, 0))), some (.ref (G.2.2.2.1 k)), some (.int (i32 op)), none, none] (fun K hk hR hin => ?_)
  have fin : ∀ (A : Nat) (mn ov : Bool) (o : Nat → Nat × Bool) (on : Nat) (w : Wt) (tm : Nat) (y : Int) (x : Option Value), y = (tm : Int) → tm < 1000000 → WW w0 ad w (c, g, t, A, mn, ov, dv, dm, nx, fl, q, qn, o, on, ln, m, r, p, fc) → tW ad w (14, 0) (15, 0) v sg → ∀ R : St × Int, R = ((c, g, t + tm, A, mn, ov, v, sg, nx, fl, q, qn, o, on, ln, m, r, p, fc), -1) → V G K 5 (QE G K (fun rv ad' w' => rv = some (.int (i32 R.2)) ∧ ad' = ad ∧ WW w0 ad w' R.1) noT 0 0) 0 0 252 [some (.ref (ad (0, 0))), some (.ref (G.2.2.2.1 k)), some (.int (i32 op)), some (.int (i32 y)), x] [] ad w := by
    intro A mn ov o on w tm y x hy htm h h14 R hRR
    subst hy
    have h0 := h.m0
    have ht := h.t10
    refine r_aload_n (i := 0) hk (dk_at D_Mach_work 103 rfl) rfl rfl ?_
    refine r_get hk fl_Mach_76 (dk_at D_Mach_work 104 rfl) ?_
    refine r_aload_n (i := 0) hk (dk_at D_Mach_work 105 rfl) rfl rfl ?_
    refine r_get hk fl_Mach_83 (dk_at D_Mach_work 106 rfl) ?_
    refine r_callVv hk hR m_Word_copy s_Word_copy ml_Mach_139 (dk_at D_Mach_work 107 rfl) (c_Word_copy G (i := (10, 0)) (j := (11, 0)) ht.1 ht.2 h14.1 h14.2 (by intro e; cases e)) ?_ (i := (10, 0)) (hw := ht.1)
    refine r_gp (fun w => WW w0 ad w (c, g, t, A, mn, ov, v, sg, nx, fl, q, qn, o, on, ln, m, r, p, fc)) h.dist (fun w h => ?_)
    have h0 := h.m0
    refine r_aload_n (i := 0) hk (dk_at D_Mach_work 108 rfl) rfl rfl ?_
    refine r_get hk fl_Mach_62 (dk_at D_Mach_work 109 rfl) ?_
    refine r_iload_n (i := 3) hk (dk_at D_Mach_work 110 rfl) rfl rfl ?_
    refine r_callVv hk hR m_Drum_pass s_Drum_pass ml_Mach_143 (dk_at D_Mach_work 111 rfl) (c_Drum_pass G (n := tm) h.d1 htm) ?_ (i := (1, 0)) (hw := h.d1)
    refine r_iconst hk (dk_at D_Mach_work 112 rfl) ?_
    exact r_iret hk (dk_at D_Mach_work 113 rfl) ⟨by rw [hRR], rfl, by rw [hRR]; exact h.time⟩
  have h0 := h.m0
  have h4 := h.a4
  have htk := tks_le k op 0
  have add : (k = 2 ∨ k = 3) → V G K 5 (QE G K (fun rv ad' w' => rv = some (.int (i32 (wrk k op v sg (c, g, t, A, mn, ov, dv, dm, nx, fl, q, qn, o, on, ln, m, r, p, fc)).2)) ∧ ad' = ad ∧ WW w0 ad w' (wrk k op v sg (c, g, t, A, mn, ov, dv, dm, nx, fl, q, qn, o, on, ln, m, r, p, fc)).1) noT 0 0) 0 0 60 [some (.ref (ad (0, 0))), some (.ref (G.2.2.2.1 k)), some (.int (i32 op)), some (.int (i32 (tks k op 0 : Nat))), none] [] ad w := by
    intro h23
    have eT : tks k op 0 = 2 := if_pos h23
    have eW : wrk k op v sg (c, g, t, A, mn, ov, dv, dm, nx, fl, q, qn, o, on, ln, m, r, p, fc) = ((c, g, t + 2, adA (wkA0 k A) (v * 10 ^ wkP op) (wkS op sg == wkM0 k mn), adM (wkA0 k A) (v * 10 ^ wkP op) (wkM0 k mn) (wkS op sg == wkM0 k mn), adO (wkA0 k A) (v * 10 ^ wkP op) ov (wkS op sg == wkM0 k mn), v, sg, nx, fl, q, qn, o, on, ln, m, r, p, fc), -1) := if_pos h23
    have m74 : ∀ w : Wt, WW w0 ad w (c, g, t, wkA0 k A, wkM0 k mn, ov, dv, dm, nx, fl, q, qn, o, on, ln, m, r, p, fc) → tW ad w (14, 0) (15, 0) v sg → V G K 5 (QE G K (fun rv ad' w' => rv = some (.int (i32 (wrk k op v sg (c, g, t, A, mn, ov, dv, dm, nx, fl, q, qn, o, on, ln, m, r, p, fc)).2)) ∧ ad' = ad ∧ WW w0 ad w' (wrk k op v sg (c, g, t, A, mn, ov, dv, dm, nx, fl, q, qn, o, on, ln, m, r, p, fc)).1) noT 0 0) 0 0 74 [some (.ref (ad (0, 0))), some (.ref (G.2.2.2.1 k)), some (.int (i32 op)), some (.int (i32 (tks k op 0 : Nat))), none] [] ad w := by
      intro w h h14
      have h0 := h.m0
      have h14a := h14.1
      have hlt : wkA0 k A < 10 ^ 20 := by unfold wkA0; split <;> omega
      have hat : wkP op = 0 ∨ wkP op = 10 := by unfold wkP; split <;> omega
      have m150 : ∀ s : Bool, s = wkS op sg → ∀ x, V G K 5 (QE G K (fun rv ad' w' => rv = some (.int (i32 (wrk k op v sg (c, g, t, A, mn, ov, dv, dm, nx, fl, q, qn, o, on, ln, m, r, p, fc)).2)) ∧ ad' = ad ∧ WW w0 ad w' (wrk k op v sg (c, g, t, A, mn, ov, dv, dm, nx, fl, q, qn, o, on, ln, m, r, p, fc)).1) noT 0 0) 0 0 150 [some (.ref (ad (0, 0))), some (.ref (G.2.2.2.1 k)), some (.int (i32 op)), some (.int (i32 (tks k op 0 : Nat))), x] [.int (i32 (b2i s)), .int (i32 (wkP op)), .ref (ad (14, 0)), .ref (ad (4, 0))] ad w := by
        intro s hs x
        subst hs
        refine r_callVv hk hR m_Acc_add s_Acc_add ml_Mach_117 (dk_at D_Mach_work 53 rfl) (c_Acc_add G (sg := wkS op sg) (a := wkP op) h.a4 h.a5 h14.1 h14.2 hv hlt hat (by intro e; cases e)) ?_ (i := (4, 0)) (hw := h.a4)
        refine r_goto (t := 252) hk (dk_at D_Mach_work 54 rfl) (by decide) ?_
        exact fin _ _ _ _ _ _ 2 _ _ (by rw [eT]) (by decide) (h.accA.acc) (h14.fr ((up_n (by intro e; cases e)).trans (up_n (by intro e; cases e))) ((up_n (by intro e; cases e)).trans (up_n (by intro e; cases e)))) _ eW
      have m127 : ∀ n : Nat, n = wkP op → V G K 5 (QE G K (fun rv ad' w' => rv = some (.int (i32 (wrk k op v sg (c, g, t, A, mn, ov, dv, dm, nx, fl, q, qn, o, on, ln, m, r, p, fc)).2)) ∧ ad' = ad ∧ WW w0 ad w' (wrk k op v sg (c, g, t, A, mn, ov, dv, dm, nx, fl, q, qn, o, on, ln, m, r, p, fc)).1) noT 0 0) 0 0 127 [some (.ref (ad (0, 0))), some (.ref (G.2.2.2.1 k)), some (.int (i32 op)), some (.int (i32 (tks k op 0 : Nat))), some (.int (i32 (b2i (sb op))))] [.int (i32 n), .ref (ad (14, 0)), .ref (ad (4, 0))] ad w := by
        intro n hn
        subst hn
        refine r_iload_n (i := 2) hk (dk_at D_Mach_work 42 rfl) rfl rfl ?_
        refine r_bipush hk (dk_at D_Mach_work 43 rfl) (by decide) ?_
        refine r_icmp_eq (t := 149) hk (dk_at D_Mach_work 44 rfl) (by decide) (by omega) (by omega) (fun c_130 => ?_) (fun c_130 => ?_)
        · refine r_iconst hk (dk_at D_Mach_work 52 rfl) ?_
          exact m150 false (by unfold wkS; rw [decide_eq_false (by omega)]; rfl) _
        · refine r_aload_n (i := 0) hk (dk_at D_Mach_work 45 rfl) rfl rfl ?_
          refine r_get hk fl_Mach_83 (dk_at D_Mach_work 46 rfl) ?_
          refine r_getN hk fl_Mach_113 (dk_at D_Mach_work 47 rfl) ?_
          refine r_iload (i := 4) hk (dk_at D_Mach_work 48 rfl) rfl ?_
          refine r_icmp_eqB (t := 149) hk (dk_at D_Mach_work 49 rfl) (by decide) (fun c_142 => ?_) (fun c_142 => ?_)
          · refine r_iconst hk (dk_at D_Mach_work 52 rfl) ?_
            exact m150 false (by unfold wkS; rw [xor_f c_142, Bool.and_false]) _
          · refine r_iconst hk (dk_at D_Mach_work 50 rfl) ?_
            refine r_goto (t := 150) hk (dk_at D_Mach_work 51 rfl) (by decide) ?_
            exact m150 true (by unfold wkS; rw [xor_t c_142, decide_eq_true (by omega)]; rfl) _
      have m103 : ∀ b : Bool, b = sb op → V G K 5 (QE G K (fun rv ad' w' => rv = some (.int (i32 (wrk k op v sg (c, g, t, A, mn, ov, dv, dm, nx, fl, q, qn, o, on, ln, m, r, p, fc)).2)) ∧ ad' = ad ∧ WW w0 ad w' (wrk k op v sg (c, g, t, A, mn, ov, dv, dm, nx, fl, q, qn, o, on, ln, m, r, p, fc)).1) noT 0 0) 0 0 103 [some (.ref (ad (0, 0))), some (.ref (G.2.2.2.1 k)), some (.int (i32 op)), some (.int (i32 (tks k op 0 : Nat))), none] [.int (i32 (b2i b))] ad w := by
        intro b hb
        subst hb
        refine r_istore (i := 4) (ls' := [_, _, _, _, _]) hk (dk_at D_Mach_work 29 rfl) rfl rfl rfl ?_
        refine r_aload_n (i := 0) hk (dk_at D_Mach_work 30 rfl) rfl rfl ?_
        refine r_get hk fl_Mach_69 (dk_at D_Mach_work 31 rfl) ?_
        refine r_aload_n (i := 0) hk (dk_at D_Mach_work 32 rfl) rfl rfl ?_
        refine r_get hk fl_Mach_83 (dk_at D_Mach_work 33 rfl) ?_
        refine r_iload_n (i := 2) hk (dk_at D_Mach_work 34 rfl) rfl rfl ?_
        refine r_bipush hk (dk_at D_Mach_work 35 rfl) (by decide) ?_
        refine r_irem hk (dk_at D_Mach_work 36 rfl) (by omega) (by omega) ?_
        refine r_iconst hk (dk_at D_Mach_work 37 rfl) ?_
        refine r_icmp_ge (t := 126) hk (dk_at D_Mach_work 38 rfl) (by decide) (by omega) (by omega) (fun c_118 => ?_) (fun c_118 => ?_)
        · refine r_iconst hk (dk_at D_Mach_work 41 rfl) ?_
          exact m127 0 (if_neg (by omega)).symm
        · refine r_bipush hk (dk_at D_Mach_work 39 rfl) (by decide) ?_
          refine r_goto (t := 127) hk (dk_at D_Mach_work 40 rfl) (by decide) ?_
          exact m127 10 (if_pos (by omega)).symm
      have one : (op = 11 ∨ op = 16 ∨ op = 61 ∨ op = 66) → V G K 5 (QE G K (fun rv ad' w' => rv = some (.int (i32 (wrk k op v sg (c, g, t, A, mn, ov, dv, dm, nx, fl, q, qn, o, on, ln, m, r, p, fc)).2)) ∧ ad' = ad ∧ WW w0 ad w' (wrk k op v sg (c, g, t, A, mn, ov, dv, dm, nx, fl, q, qn, o, on, ln, m, r, p, fc)).1) noT 0 0) 0 0 98 [some (.ref (ad (0, 0))), some (.ref (G.2.2.2.1 k)), some (.int (i32 op)), some (.int (i32 (tks k op 0 : Nat))), none] [] ad w := by
        intro ho
        refine r_iconst hk (dk_at D_Mach_work 26 rfl) ?_
        refine r_goto (t := 103) hk (dk_at D_Mach_work 27 rfl) (by decide) ?_
        exact m103 true (by unfold sb; rcases ho with e | e | e | e <;> subst e <;> rfl)
      refine r_iload_n (i := 2) hk (dk_at D_Mach_work 14 rfl) rfl rfl ?_
      refine r_bipush hk (dk_at D_Mach_work 15 rfl) (by decide) ?_
      refine r_icmp_eq (t := 98) hk (dk_at D_Mach_work 16 rfl) (by decide) (by omega) (by omega) (fun c_77 => ?_) (fun c_77 => ?_)
      · exact one (by omega)
      · refine r_iload_n (i := 2) hk (dk_at D_Mach_work 17 rfl) rfl rfl ?_
        refine r_bipush hk (dk_at D_Mach_work 18 rfl) (by decide) ?_
        refine r_icmp_eq (t := 98) hk (dk_at D_Mach_work 19 rfl) (by decide) (by omega) (by omega) (fun c_83 => ?_) (fun c_83 => ?_)
        · exact one (by omega)
        · refine r_iload_n (i := 2) hk (dk_at D_Mach_work 20 rfl) rfl rfl ?_
          refine r_bipush hk (dk_at D_Mach_work 21 rfl) (by decide) ?_
          refine r_icmp_eq (t := 98) hk (dk_at D_Mach_work 22 rfl) (by decide) (by omega) (by omega) (fun c_89 => ?_) (fun c_89 => ?_)
          · exact one (by omega)
          · refine r_iload_n (i := 2) hk (dk_at D_Mach_work 23 rfl) rfl rfl ?_
            refine r_bipush hk (dk_at D_Mach_work 24 rfl) (by decide) ?_
            refine r_icmp_ne (t := 102) hk (dk_at D_Mach_work 25 rfl) (by decide) (by omega) (by omega) (fun c_95 => ?_) (fun c_95 => ?_)
            · refine r_iconst hk (dk_at D_Mach_work 28 rfl) ?_
              exact m103 false (by unfold sb; rw [decide_eq_false (by omega), decide_eq_false (by omega), decide_eq_false (by omega), decide_eq_false (by omega)]; rfl)
            · exact one (by omega)
    refine r_aload_n (i := 1) hk (dk_at D_Mach_work 8 rfl) rfl rfl ?_
    refine r_getK (k := 3) hk kf_Mach_13 rfl (dk_at D_Mach_work 9 rfl) ?_
    refine r_acmp_ne (t := 74) hk (dk_at D_Mach_work 10 rfl) (by decide) (fun c_64 => ?_) (fun c_64 => ?_)
    · have n3 : k ≠ 3 := fun z => c_64 (by rw [z])
      have e1 : wkA0 k A = A := if_neg n3
      have e2 : wkM0 k mn = mn := if_neg n3
      exact m74 w (by rw [e1, e2]; exact h) h14
    · have e3 : k = 3 := kinds_ne hk (by omega) (by decide) (Decidable.byContradiction c_64)
      have e1 : wkA0 k A = 0 := if_pos e3
      have e2 : wkM0 k mn = false := if_pos e3
      refine r_aload_n (i := 0) hk (dk_at D_Mach_work 11 rfl) rfl rfl ?_
      refine r_get hk fl_Mach_69 (dk_at D_Mach_work 12 rfl) ?_
      refine r_callVv hk hR m_Acc_reset s_Acc_reset ml_Mach_110 (dk_at D_Mach_work 13 rfl) (c_Acc_reset G h.a4 h.a5) ?_ (i := (4, 0)) (hw := h.a4)
      exact m74 _ (by rw [e1, e2]; exact h.accA.acc) (h14.fr ((up_n (by intro e; cases e)).trans (up_n (by intro e; cases e))) ((up_n (by intro e; cases e)).trans (up_n (by intro e; cases e))))
  have h14a := h14.1
  refine r_aload_n (i := 1) hk (dk_at D_Mach_work 0 rfl) rfl rfl ?_
  refine r_iload_n (i := 2) hk (dk_at D_Mach_work 1 rfl) rfl rfl ?_
  refine r_iconst hk (dk_at D_Mach_work 2 rfl) ?_
  refine r_callS hk hR m_Mach_takes s_Mach_takes ml_Mach_106 (dk_at D_Mach_work 3 rfl) (c_Mach_takes G (k := k) (op := op) (d := 0) (by omega) (by omega) (by decide)) ?_
  refine r_istore_n (i := 3) (ls' := [_, _, _, _, _]) hk (dk_at D_Mach_work 4 rfl) rfl rfl rfl rfl ?_
  refine r_aload_n (i := 1) hk (dk_at D_Mach_work 5 rfl) rfl rfl ?_
  refine r_ord hk hR (dk_at D_Mach_work 6 rfl) (by omega) ?_
  rcases hk6 with e | e | e | e | e | e
  · refine r_tableIn (t := 60) (off := 49) hk (dk_at D_Mach_work 7 rfl) (by omega) (by omega) (by omega) (by subst e; rfl) (by decide) ?_
    exact add (Or.inl e)
  · refine r_tableIn (t := 60) (off := 49) hk (dk_at D_Mach_work 7 rfl) (by omega) (by omega) (by omega) (by subst e; rfl) (by decide) ?_
    exact add (Or.inr e)
  · refine r_tableIn (t := 252) (off := 241) hk (dk_at D_Mach_work 7 rfl) (by omega) (by omega) (by omega) (by subst e; rfl) (by decide) ?_
    subst e
    exact fin _ _ _ _ _ _ 0 _ _ rfl (by decide) h h14 _ rfl
  · refine r_tableIn (t := 156) (off := 145) hk (dk_at D_Mach_work 7 rfl) (by omega) (by omega) (by omega) (by subst e; rfl) (by decide) ?_
    subst e
    have hd9 := ds_le (A / 10 ^ 10) 10
    obtain ⟨x6, f6, e6, e7⟩ := h.s6
    obtain ⟨x8, f8, e8, e9⟩ := h.s8
    refine r_aload_n (i := 0) hk (dk_at D_Mach_work 55 rfl) rfl rfl ?_
    refine r_get hk fl_Mach_69 (dk_at D_Mach_work 56 rfl) ?_
    refine r_aload_n (i := 0) hk (dk_at D_Mach_work 57 rfl) rfl rfl ?_
    refine r_get hk fl_Mach_83 (dk_at D_Mach_work 58 rfl) ?_
    refine r_callV hk hR m_Acc_multiply s_Acc_multiply ml_Mach_121 (dk_at D_Mach_work 59 rfl) (c_Acc_multiply G h.a4 h.a5 e6 e7 e8 e9 h14.1 h14.2 hv hA) ?_ (i := (4, 0)) (hw := h.a4)
    refine r_istore_n (i := 3) (ls' := [_, _, _, _, _]) hk (dk_at D_Mach_work 60 rfl) rfl rfl rfl rfl ?_
    refine r_goto (t := 252) hk (dk_at D_Mach_work 61 rfl) (by decide) ?_
    exact fin _ _ _ _ _ _ (20 + 2 * ds (A / 10 ^ 10) 10) _ _ rfl (by omega) (h.uppr.lowr.accA.acc) (h14.fr rfl rfl) _ rfl
  · refine r_tableIn (t := 171) (off := 160) hk (dk_at D_Mach_work 7 rfl) (by omega) (by omega) (by omega) (by subst e; rfl) (by decide) ?_
    subst e
    refine r_aload_n (i := 0) hk (dk_at D_Mach_work 62 rfl) rfl rfl ?_
    refine r_get hk fl_Mach_69 (dk_at D_Mach_work 63 rfl) ?_
    refine r_aload_n (i := 0) hk (dk_at D_Mach_work 64 rfl) rfl rfl ?_
    refine r_get hk fl_Mach_83 (dk_at D_Mach_work 65 rfl) ?_
    refine r_bipush hk (dk_at D_Mach_work 66 rfl) (by decide) ?_
    refine r_callV hk hR m_Acc_isAbove s_Acc_isAbove ml_Mach_125 (dk_at D_Mach_work 67 rfl) (c_Acc_isAbove G h.a4 h.a5 h14.1 h14.2 hv hA) ?_ (i := (4, 0)) (hw := h.a4)
    refine r_if_neB (t := 197) hk (dk_at D_Mach_work 68 rfl) (by decide) (fun c_184 => ?_) (fun c_184 => ?_)
    · have hU := of_decide_eq_true c_184
      have eW : wrk 6 op v sg (c, g, t, A, mn, ov, dv, dm, nx, fl, q, qn, o, on, ln, m, r, p, fc) = ((c, g, t + (20 + 2 * ds (A / v) 10), A % v * 10 ^ 10 + A / v, (mn ^^ sg), ov, v, sg, nx, fl, q, qn, o, on, ln, m, r, p, fc), -1) := if_pos hU
      have hd9 := ds_le (A / v) 10
      refine r_aload_n (i := 0) hk (dk_at D_Mach_work 75 rfl) rfl rfl ?_
      refine r_get hk fl_Mach_69 (dk_at D_Mach_work 76 rfl) ?_
      refine r_aload_n (i := 0) hk (dk_at D_Mach_work 77 rfl) rfl rfl ?_
      refine r_get hk fl_Mach_83 (dk_at D_Mach_work 78 rfl) ?_
      refine r_callV hk hR m_Acc_divide s_Acc_divide ml_Mach_132 (dk_at D_Mach_work 79 rfl) (c_Acc_divide G h.a4 h.a5 h14.1 h14.2 hv hA hU) ?_ (i := (4, 0)) (hw := h.a4)
      refine r_istore_n (i := 3) (ls' := [_, _, _, _, _]) hk (dk_at D_Mach_work 80 rfl) rfl rfl rfl rfl ?_
      refine r_goto (t := 252) hk (dk_at D_Mach_work 81 rfl) (by decide) ?_
      exact fin _ _ _ _ _ _ (20 + 2 * ds (A / v) 10) _ _ rfl (by omega) (h.accA.acc) (h14.fr rfl rfl) _ eW
    · have eW : wrk 6 op v sg (c, g, t, A, mn, ov, dv, dm, nx, fl, q, qn, o, on, ln, m, r, p, fc) = ((c, g, t, A, mn, true, dv, dm, nx, fl, q, qn, o, on, ln, m, r, p, fc), 3) := if_neg (of_decide_eq_false c_184)
      refine r_aload_n (i := 0) hk (dk_at D_Mach_work 69 rfl) rfl rfl ?_
      refine r_get hk fl_Mach_69 (dk_at D_Mach_work 70 rfl) ?_
      refine r_iconst hk (dk_at D_Mach_work 71 rfl) ?_
      refine r_putN (fs' := [_, _, _, _, _]) hk fl_Mach_129 ft_Acc_2 (dk_at D_Mach_work 72 rfl) ?_ (hn := rfl) (hfit := rfl)
      refine r_iconst hk (dk_at D_Mach_work 73 rfl) ?_
      exact r_iret hk (dk_at D_Mach_work 74 rfl) ⟨by rw [eW], rfl, by rw [eW]; exact h.acc (mn' := mn) (ov' := true)⟩
  · refine r_tableIn (t := 212) (off := 201) hk (dk_at D_Mach_work 7 rfl) (by omega) (by omega) (by omega) (by subst e; rfl) (by decide) ?_
    subst e
    refine r_aload_n (i := 0) hk (dk_at D_Mach_work 82 rfl) rfl rfl ?_
    refine r_get hk fl_Mach_135 (dk_at D_Mach_work 83 rfl) ?_
    refine r_bipush hk (dk_at D_Mach_work 84 rfl) (by decide) ?_
    refine r_icmp_ne (t := 223) hk (dk_at D_Mach_work 85 rfl) (by decide) (by omega) (by omega) (fun c_218 => ?_) (fun c_218 => ?_)
    · have h40 : on < 40 := by omega
      have eW : wrk 10 op v sg (c, g, t, A, mn, ov, dv, dm, nx, fl, q, qn, o, on, ln, m, r, p, fc) = ((c, g, t + 10, A, mn, ov, v, sg, nx, fl, q, qn, fu_ o on (v, sg), on + 1, ln, m, r, p, fc), -1) := if_neg (by omega)
      have h24 := h.o24
      obtain ⟨x25, f25, e25, e26⟩ := h.o25 h40
      refine r_aload_n (i := 0) hk (dk_at D_Mach_work 88 rfl) rfl rfl ?_
      refine r_get hk fl_Mach_97 (dk_at D_Mach_work 89 rfl) ?_
      refine r_aload_n (i := 0) hk (dk_at D_Mach_work 90 rfl) rfl rfl ?_
      refine r_get hk fl_Mach_135 (dk_at D_Mach_work 91 rfl) ?_
      refine r_aaload (ix := on) hk (dk_at D_Mach_work 92 rfl) ?_
      refine r_aload_n (i := 0) hk (dk_at D_Mach_work 93 rfl) rfl rfl ?_
      refine r_get hk fl_Mach_83 (dk_at D_Mach_work 94 rfl) ?_
      refine r_callVv hk hR m_Word_copy s_Word_copy ml_Mach_139 (dk_at D_Mach_work 95 rfl) (c_Word_copy G (i := (25, on)) (j := (26, on)) (i' := (14, 0)) (j' := (15, 0)) e25 e26 h14.1 h14.2 (by intro e; cases e)) ?_ (i := (25, on)) (hw := e25)
      refine r_aload_n (i := 0) hk (dk_at D_Mach_work 96 rfl) rfl rfl ?_
      refine r_dup hk (dk_at D_Mach_work 97 rfl) rfl ?_
      refine r_get hk fl_Mach_135 (dk_at D_Mach_work 98 rfl) ?_ (hw := (up_n (by intro e; cases e)).trans ((up_n (by intro e; cases e)).trans h0))
      refine r_iconst hk (dk_at D_Mach_work 99 rfl) ?_
      refine r_iadd hk (dk_at D_Mach_work 100 rfl) ?_
      refine r_topi (x' := ((on + 1 : Nat) : Int)) (by omega) ?_
      refine r_put (fs' := [_, _, _, _, _, _, _, _, _, _, _, _, _]) hk fl_Mach_135 ft_Mach_10 (dk_at D_Mach_work 101 rfl) ?_ (hw := (up_n (by intro e; cases e)).trans ((up_n (by intro e; cases e)).trans h0))
      refine r_goto (t := 252) hk (dk_at D_Mach_work 102 rfl) (by decide) ?_
      exact fin _ _ _ _ _ _ 10 _ _ rfl (by decide) (h.outp h40) (h14.fr ((up_n (by intro e; cases e)).trans ((up_n (by intro e; cases e)).trans (up_n (by intro e; cases e)))) ((up_n (by intro e; cases e)).trans ((up_n (by intro e; cases e)).trans (up_n (by intro e; cases e))))) _ eW
    · have eW : wrk 10 op v sg (c, g, t, A, mn, ov, dv, dm, nx, fl, q, qn, o, on, ln, m, r, p, fc) = ((c, g, t, A, mn, ov, dv, dm, nx, fl, q, qn, o, on, ln, m, r, p, fc), 4) := if_pos (by omega)
      refine r_iconst hk (dk_at D_Mach_work 86 rfl) ?_
      exact r_iret hk (dk_at D_Mach_work 87 rfl) ⟨by rw [eW], rfl, by rw [eW]; exact h⟩
