/-! the twin: step -/
theorem c_Mod_doReadL (G : Gt) {w0 w : Wt} {ad : Ix → Nat} {cd : Int} {dv : Nat} {mn : Bool} {dm : Bool} {ov : Bool} {nx : Nat} {fl : Int} {t : Nat} {qn : Nat} {on : Nat} {m : Nat} {fu : Bool} {c : Nat → Nat → Nat} {g : Nat → Bool} {q : Nat → Nat × Bool} {o : Nat → Nat × Bool} {ln : Nat → Ln} {r : Nat → Bool} {p : Nat → Int} {hd : Nat → Bool} {at_ : Nat → Int} {wr : Nat → Int} {A : Nat} {s v : Nat} {sg : Bool} (h : TX w0 ad w cd (((A / 10 ^ 10 : Nat) : Int)) (((A % 10 ^ 10 : Nat) : Int)) (((dv : Nat) : Int)) mn dm ov (((nx : Nat) : Int)) fl t qn on m fu c g q o ln r p hd at_ wr) (hc : ∀ a k, c a k < 128) (hdv : dv < 10 ^ 10) (hs : s < 200) (hnx : nx < 200) (ht : t < 1000000000000) {R : Nat × Int × Nat} (hRR : lk c dv (50 - s % 50) s t false = R) : Mt G y_Mod_doRead w_Mod_doRead 3 0 0 [.ref (ad (50, 0)), .int (i32 84), .int (i32 s), .long (i64 v), .int (i32 (b2i sg)), .int (i32 (nx : Nat))] ad w (fun rv ad' w' => rv = some (.int (i32 (b2i (decide (R.2.1 = -1))))) ∧ ad' = ad ∧ TX w0 ad w' cd ((((lkA R A) / 10 ^ 10 : Nat) : Int)) ((((lkA R A) % 10 ^ 10 : Nat) : Int)) (((dv : Nat) : Int)) mn dm ov (((nx : Nat) : Int)) (if R.2.1 = -1 then fl else R.2.1) R.1 qn on m fu c g q o ln r p hd at_ wr) noT := by
  refine Mt.to [some (.ref (ad (50, 0))), some (.int (i32 84)), some (.int (i32 s)), some (.long (i64 v)), none, some (.int (i32 (b2i sg))), some (.int (i32 (nx : Nat)))] (fun K hk hR hin => ?_)
  have hob := h.ob_
  refine r_iload_n (i := 1) hk (dk_at D_Mod_doRead 0 rfl) rfl rfl ?_
  refine r_bipush hk (dk_at D_Mod_doRead 1 rfl) (by decide) ?_
  refine r_icmp_ne (t := 14) hk (dk_at D_Mod_doRead 2 rfl) (by decide) (by omega) (by omega) (fun c_3 => ?_) (fun c_3 => ?_)
  · exact absurd rfl c_3
  · refine r_aload_n (i := 0) hk (dk_at D_Mod_doRead 3 rfl) rfl rfl ?_
    refine r_iload_n (i := 2) hk (dk_at D_Mod_doRead 4 rfl) rfl rfl ?_
    refine r_iload (i := 6) hk (dk_at D_Mod_doRead 5 rfl) rfl ?_
    refine r_callVq hk hR m_Mod_lookUp s_Mod_lookUp ml_Mod_130 (dk_at D_Mod_doRead 6 rfl) (c_Mod_lookUp G (s := s) h hc hdv hs hnx ht hRR) (fun w h => ?_) (i := (50, 0)) (hw := hob)
    exact r_bret (b := (decide (R.2.1 = -1))) hk (dk_at D_Mod_doRead 7 rfl) ⟨rfl, rfl, h⟩
theorem acx_no {k op a : Nat} {c : Nat → Nat → Nat} {g : Nat → Bool} {t : Nat} {A : Nat} {mn : Bool} {ov : Bool} {dv : Nat} {dm : Bool} {nx : Nat} {fl : Int} {q : Nat → Nat × Bool} {qn : Nat} {o : Nat → Nat × Bool} {on : Nat} {ln : Nat → Int × Int × Int × Int} {m : Nat} {r : Nat → Bool} {p : Nat → Int} {fc : Nat} (h : ¬ a < 200) : acx k op a (c, g, t, A, mn, ov, dv, dm, nx, fl, q, qn, o, on, ln, m, r, p, fc) = ((c, g, t, A, mn, ov, dv, dm, nx, fl, q, qn, o, on, ln, m, r, p, fc), 2) := if_neg h
theorem acx_i {k op a : Nat} {c : Nat → Nat → Nat} {g : Nat → Bool} {t : Nat} {A : Nat} {mn : Bool} {ov : Bool} {dv : Nat} {dm : Bool} {nx : Nat} {fl : Int} {q : Nat → Nat × Bool} {qn : Nat} {o : Nat → Nat × Bool} {on : Nat} {ln : Nat → Int × Int × Int × Int} {m : Nat} {r : Nat → Bool} {p : Nat → Int} {fc : Nat} (h : a < 200) (h1 : rds k = true) (h2 : vld (c a) = false) : acx k op a (c, g, t, A, mn, ov, dv, dm, nx, fl, q, qn, o, on, ln, m, r, p, fc) = ((c, g, comeT a t, A, mn, ov, dv, dm, nx, fl, q, qn, o, on, ln, m, r, p, fc), 1) := (if_pos h).trans (if_pos ⟨h1, h2⟩)
theorem acx_8 {op a : Nat} {c : Nat → Nat → Nat} {g : Nat → Bool} {t : Nat} {A : Nat} {mn : Bool} {ov : Bool} {dv : Nat} {dm : Bool} {nx : Nat} {fl : Int} {q : Nat → Nat × Bool} {qn : Nat} {o : Nat → Nat × Bool} {on : Nat} {ln : Nat → Int × Int × Int × Int} {m : Nat} {r : Nat → Bool} {p : Nat → Int} {fc : Nat} (h : a < 200) : acx 8 op a (c, g, t, A, mn, ov, dv, dm, nx, fl, q, qn, o, on, ln, m, r, p, fc) = ((fu_ c a (cdv (stD op A dv)), fu_ g a (stM op mn dm), comeT a t, A, mn, ov, stD op A dv, stM op mn dm, nx, fl, q, qn, o, on, ln, m, r, p, fc), -1) := (if_pos h).trans ((if_neg (fun z => absurd z.1 (by decide))).trans (if_pos rfl))
theorem acx_9 {op a : Nat} {c : Nat → Nat → Nat} {g : Nat → Bool} {t : Nat} {A : Nat} {mn : Bool} {ov : Bool} {dv : Nat} {dm : Bool} {nx : Nat} {fl : Int} {q : Nat → Nat × Bool} {qn : Nat} {o : Nat → Nat × Bool} {on : Nat} {ln : Nat → Int × Int × Int × Int} {m : Nat} {r : Nat → Bool} {p : Nat → Int} {fc : Nat} (h : a < 200) : acx 9 op a (c, g, t, A, mn, ov, dv, dm, nx, fl, q, qn, o, on, ln, m, r, p, fc) = rdc a (c, g, comeT a t, A, mn, ov, dv, dm, nx, fl, q, qn, o, on, ln, m, r, p, fc) := (if_pos h).trans ((if_neg (fun z => absurd z.1 (by decide))).trans ((if_neg (by decide)).trans (if_pos rfl)))
theorem acx_7 {op a : Nat} {c : Nat → Nat → Nat} {g : Nat → Bool} {t : Nat} {A : Nat} {mn : Bool} {ov : Bool} {dv : Nat} {dm : Bool} {nx : Nat} {fl : Int} {q : Nat → Nat × Bool} {qn : Nat} {o : Nat → Nat × Bool} {on : Nat} {ln : Nat → Int × Int × Int × Int} {m : Nat} {r : Nat → Bool} {p : Nat → Int} {fc : Nat} (h : a < 200) : acx 7 op a (c, g, t, A, mn, ov, dv, dm, nx, fl, q, qn, o, on, ln, m, r, p, fc) = ((c, g, (lk c dv (50 - a % 50) a (comeT a t) false).1, lkA (lk c dv (50 - a % 50) a (comeT a t) false) A, mn, ov, dv, dm, nx, fl, q, qn, o, on, ln, m, r, p, fc), (lk c dv (50 - a % 50) a (comeT a t) false).2.1) := (if_pos h).trans ((if_neg (fun z => absurd z.1 (by decide))).trans ((if_neg (by decide)).trans ((if_neg (by decide)).trans (if_pos rfl))))
theorem acx_w {k op a : Nat} {c : Nat → Nat → Nat} {g : Nat → Bool} {t : Nat} {A : Nat} {mn : Bool} {ov : Bool} {dv : Nat} {dm : Bool} {nx : Nat} {fl : Int} {q : Nat → Nat × Bool} {qn : Nat} {o : Nat → Nat × Bool} {on : Nat} {ln : Nat → Int × Int × Int × Int} {m : Nat} {r : Nat → Bool} {p : Nat → Int} {fc : Nat} (h : a < 200) (h2 : vld (c a) = true) (h8 : k ≠ 8) (h9 : k ≠ 9) (h7 : k ≠ 7) : acx k op a (c, g, t, A, mn, ov, dv, dm, nx, fl, q, qn, o, on, ln, m, r, p, fc) = wrk k op (val (c a)) (g a) (c, g, comeT a t, A, mn, ov, dv, dm, nx, fl, q, qn, o, on, ln, m, r, p, fc) := (if_pos h).trans ((if_neg (fun z => by rw [h2] at z; cases z.2)).trans ((if_neg h8).trans ((if_neg h9).trans (if_neg h7))))
theorem lk_i {c : Nat → Nat → Nat} {dv n a t : Nat} (h : vld (c a) = false) : lk c dv (n + 1) a t false = (t, 1, 0) := by
  unfold lk
  rw [if_neg (by rw [h]; decide)]
  rfl
theorem acx_i7 {op a : Nat} {c : Nat → Nat → Nat} {g : Nat → Bool} {t : Nat} {A : Nat} {mn : Bool} {ov : Bool} {dv : Nat} {dm : Bool} {nx : Nat} {fl : Int} {q : Nat → Nat × Bool} {qn : Nat} {o : Nat → Nat × Bool} {on : Nat} {ln : Nat → Int × Int × Int × Int} {m : Nat} {r : Nat → Bool} {p : Nat → Int} {fc : Nat} (h : a < 200) (h2 : vld (c a) = false) : acx 7 op a (c, g, t, A, mn, ov, dv, dm, nx, fl, q, qn, o, on, ln, m, r, p, fc) = ((c, g, comeT a t, A, mn, ov, dv, dm, nx, fl, q, qn, o, on, ln, m, r, p, fc), 1) := by
  rw [acx_7 h]
  obtain ⟨n, hn⟩ : ∃ n, 50 - a % 50 = n + 1 := ⟨49 - a % 50, by omega⟩
  rw [hn, lk_i h2]
  rfl
theorem lk_n0 (c : Nat → Nat → Nat) (dv : Nat) : ∀ n a t b, (lk c dv n a t b).2.1 ≠ 0
  | 0, a, t, b => show (5 : Int) ≠ 0 by decide
  | n + 1, a, t, b => by
    unfold lk
    split
    · split
      · exact lk_n0 c dv n _ _ _
      · exact show (-1 : Int) ≠ 0 by decide
    · exact show (1 : Int) ≠ 0 by decide
theorem ite_n0 {P : Prop} {_ : Decidable P} {a b : St × Int} (h1 : a.2 ≠ 0) (h2 : b.2 ≠ 0) : (if P then a else b).2 ≠ 0 := by
  split
  · exact h1
  · exact h2
theorem wrk_n0 {k op v : Nat} {sg : Bool} {c : Nat → Nat → Nat} {g : Nat → Bool} {t : Nat} {A : Nat} {mn : Bool} {ov : Bool} {dv : Nat} {dm : Bool} {nx : Nat} {fl : Int} {q : Nat → Nat × Bool} {qn : Nat} {o : Nat → Nat × Bool} {on : Nat} {ln : Nat → Int × Int × Int × Int} {m : Nat} {r : Nat → Bool} {p : Nat → Int} {fc : Nat} : (wrk k op v sg (c, g, t, A, mn, ov, dv, dm, nx, fl, q, qn, o, on, ln, m, r, p, fc)).2 ≠ 0 := by
  refine ite_n0 (show (-1 : Int) ≠ 0 by decide) (ite_n0 (show (-1 : Int) ≠ 0 by decide) (ite_n0 (ite_n0 (show (-1 : Int) ≠ 0 by decide) (show (3 : Int) ≠ 0 by decide)) (ite_n0 (ite_n0 (show (4 : Int) ≠ 0 by decide) (show (-1 : Int) ≠ 0 by decide)) (show (-1 : Int) ≠ 0 by decide))))
theorem rdc_0 {a : Nat} {c : Nat → Nat → Nat} {g : Nat → Bool} {t : Nat} {A : Nat} {mn : Bool} {ov : Bool} {dv : Nat} {dm : Bool} {nx : Nat} {fl : Int} {q : Nat → Nat × Bool} {qn : Nat} {o : Nat → Nat × Bool} {on : Nat} {ln : Nat → Int × Int × Int × Int} {m : Nat} {r : Nat → Bool} {p : Nat → Int} {fc : Nat} (h : qn = 0) : rdc a (c, g, t, A, mn, ov, dv, dm, nx, fl, q, qn, o, on, ln, m, r, p, fc) = ((c, g, t, A, mn, ov, dv, dm, nx, fl, q, qn, o, on, ln, m, r, p, fc), 4) := if_pos h
theorem rdc_1 {a : Nat} {c : Nat → Nat → Nat} {g : Nat → Bool} {t : Nat} {A : Nat} {mn : Bool} {ov : Bool} {dv : Nat} {dm : Bool} {nx : Nat} {fl : Int} {q : Nat → Nat × Bool} {qn : Nat} {o : Nat → Nat × Bool} {on : Nat} {ln : Nat → Int × Int × Int × Int} {m : Nat} {r : Nat → Bool} {p : Nat → Int} {fc : Nat} (h : qn ≠ 0) : rdc a (c, g, t, A, mn, ov, dv, dm, nx, fl, q, qn, o, on, ln, m, r, p, fc) = ((fu_ c a (cdv (q 0).1), fu_ g a (q 0).2, t + 10, A, mn, ov, dv, dm, nx, fl, fun k => q (k + 1), qn - 1, o, on, ln, m, r, p, (fc + 1) % 20), -1) := if_neg h
theorem ops8 : ∀ n, n < 100 → kn n = some 8 → n = 20 ∨ n = 21 ∨ n = 22 ∨ n = 24 := by decide
theorem ops9 : ∀ n, n < 100 → kn n = some 9 → n = 70 := by decide
theorem ops0 : ∀ n, n < 100 → kn n = some 0 → n = 0 := by decide
theorem ops1 : ∀ n, n < 100 → kn n = some 1 → n = 1 := by decide
theorem ops11 : ∀ n, n < 100 → kn n = some 11 → n = 30 ∨ n = 31 ∨ n = 35 := by decide
theorem rdk {op k : Nat} (h : op < 100) (hk : kn op = some k) : mRd (op : Int) = (acs k && (!(Nat.beq k 8) && !(Nat.beq k 9))) := by rw [mRd_n op h, hk]; rfl
theorem wrk_k {op k : Nat} (h : op < 100) (hk : kn op = some k) : mWr (op : Int) = (Nat.beq k 8 || Nat.beq k 9) := by rw [mWr_n op h, hk]; rfl
theorem rk1 : ∀ k, k < 13 → (acs k && (!(Nat.beq k 8) && !(Nat.beq k 9))) = true → (k = 7 ∨ ((k = 2 ∨ k = 3 ∨ k = 4 ∨ k = 5 ∨ k = 6 ∨ k = 10) ∧ rds k = true)) := by decide
theorem rk2 : ∀ k, k < 13 → (acs k && (!(Nat.beq k 8) && !(Nat.beq k 9))) = false → acs k = true → k = 8 ∨ k = 9 := by decide
theorem rk3 : ∀ k, k < 13 → acs k = true → ((acs k && (!(Nat.beq k 8) && !(Nat.beq k 9))) || (Nat.beq k 8 || Nat.beq k 9)) = true := by decide
theorem rk4 : ∀ k, k < 13 → acs k = false → (Nat.beq k 8 || Nat.beq k 9) = false ∧ (k = 0 ∨ k = 1 ∨ k = 11 ∨ k = 12) := by decide
theorem Mod_tailA (G : Gt) {w0 w : Wt} {ad : Ix → Nat} {cd : Int} {dv : Nat} {mn : Bool} {dm : Bool} {ov : Bool} {nx : Nat} {fl : Int} {t : Nat} {qn : Nat} {on : Nat} {m : Nat} {fu : Bool} {c : Nat → Nat → Nat} {g : Nat → Bool} {q : Nat → Nat × Bool} {o : Nat → Nat × Bool} {ln : Nat → Ln} {r : Nat → Bool} {p : Nat → Int} {hd : Nat → Bool} {at_ : Nat → Int} {wr : Nat → Int} {fc : Nat} {A : Nat} {v op d th k : Nat} {K : Kt} (hk : Ok G K y_Mod_step.cls b_Mod_step 10 (some .boolean) []) (hR : Rm K 4 0 0) (hop : op < 100) (hd4 : d < 10000) (hth : th < 10000) (hkn : kn op = some k) (ha : acs k = true) (hnx2 : nx < 200) (hw : wf (c, g, t, A, mn, ov, dv, dm, nx, -1, q, qn, o, on, ln, m, r, p, fc)) (ht : t < 110000000000) (h : TX w0 ad w cd (((A / 10 ^ 10 : Nat) : Int)) (((A % 10 ^ 10 : Nat) : Int)) (((dv : Nat) : Int)) mn dm ov (((nx : Nat) : Int)) (-1) t qn on m fu c g q o ln r p hd at_ wr) : V G K 10 (QE G K (fun rv ad' w' => rv = some (.int (i32 (b2i (decide ((stR th (acx k op d (c, g, t, A, mn, ov, dv, dm, nx, -1, q, qn, o, on, ln, m, r, p, fc))).2 = -1 ∨ (stR th (acx k op d (c, g, t, A, mn, ov, dv, dm, nx, -1, q, qn, o, on, ln, m, r, p, fc))).2 = 0))))) ∧ ad' = ad ∧ TS w0 ad w' cd fu hd at_ wr (setFl (stR th (acx k op d (c, g, t, A, mn, ov, dv, dm, nx, -1, q, qn, o, on, ln, m, r, p, fc))).2 (stR th (acx k op d (c, g, t, A, mn, ov, dv, dm, nx, -1, q, qn, o, on, ln, m, r, p, fc))).1)) noT 0 0) 0 0 102 [some (.ref (ad (50, 0))), some (.int (i32 (nx : Nat))), some (.long (i64 v)), none, some (.int (i32 op)), some (.int (i32 d)), some (.int (i32 th)), none, none, none] [] ad w := by
  obtain ⟨hc, hA, hdv, hnx, hfl, hq, hqn, ho, hon, hln, hm, hp, hfc⟩ := hw
  have h13 := (kn_lt hkn).1
  have hct := comeT_le d t
  have hob := h.ob_
  have eRd := rdk hop hkn
  have m191 : ∀ (R : St × Int) (w : Wt) (x7 : Option Value), acx k op d (c, g, t, A, mn, ov, dv, dm, nx, -1, q, qn, o, on, ln, m, r, p, fc) = R → R.2 ≠ 0 → TS w0 ad w cd fu hd at_ wr (setFl R.2 R.1) → V G K 10 (QE G K (fun rv ad' w' => rv = some (.int (i32 (b2i (decide ((stR th (acx k op d (c, g, t, A, mn, ov, dv, dm, nx, -1, q, qn, o, on, ln, m, r, p, fc))).2 = -1 ∨ (stR th (acx k op d (c, g, t, A, mn, ov, dv, dm, nx, -1, q, qn, o, on, ln, m, r, p, fc))).2 = 0))))) ∧ ad' = ad ∧ TS w0 ad w' cd fu hd at_ wr (setFl (stR th (acx k op d (c, g, t, A, mn, ov, dv, dm, nx, -1, q, qn, o, on, ln, m, r, p, fc))).2 (stR th (acx k op d (c, g, t, A, mn, ov, dv, dm, nx, -1, q, qn, o, on, ln, m, r, p, fc))).1)) noT 0 0) 0 0 191 [some (.ref (ad (50, 0))), some (.int (i32 (nx : Nat))), some (.long (i64 v)), none, some (.int (i32 op)), some (.int (i32 d)), some (.int (i32 th)), x7, none, none] [.int (i32 (b2i (decide (R.2 = -1))))] ad w := by
    intro R w x7 eR hn0 h
    rw [eR]
    obtain ⟨⟨c1, g1, t1, A1, mn1, ov1, dv1, dm1, nx1, fl1, q1, qn1, o1, on1, ln1, m1, r1, p1, fc1⟩, why⟩ := R
    have h : TX w0 ad w cd (((A1 / 10 ^ 10 : Nat) : Int)) (((A1 % 10 ^ 10 : Nat) : Int)) (((dv1 : Nat) : Int)) mn1 dm1 ov1 (((nx1 : Nat) : Int)) why t1 qn1 on1 m1 fu c1 g1 q1 o1 ln1 r1 p1 hd at_ wr := h
    have hob := h.ob_
    by_cases hy : why = -1
    · subst hy
      have e9 : stR th ((c1, g1, t1, A1, mn1, ov1, dv1, dm1, nx1, fl1, q1, qn1, o1, on1, ln1, m1, r1, p1, fc1), -1) = ((c1, g1, t1, A1, mn1, ov1, dv1, dm1, th, fl1, q1, qn1, o1, on1, ln1, m1, r1, p1, fc1), -1) := if_pos rfl
      rw [e9]
      refine r_istore (i := 9) (ls' := [_, _, _, _, _, _, _, _, _, _]) hk (dk_at D_Mod_step 104 rfl) rfl rfl rfl ?_
      refine r_iload (i := 9) hk (dk_at D_Mod_step 105 rfl) rfl ?_
      refine r_if_eqB (t := 204) hk (dk_at D_Mod_step 106 rfl) (by decide) (fun c_195 => ?_) (fun c_195 => ?_)
      · cases c_195
      · refine r_aload_n (i := 0) hk (dk_at D_Mod_step 107 rfl) rfl rfl ?_
        refine r_iload (i := 6) hk (dk_at D_Mod_step 108 rfl) rfl ?_
        refine r_put (fs' := [_, _, _, _, _, _, _, _, _, _, _, _, _, _, _, _, _, _, _, _, _, _, _, _, _, _, _, _]) hk fl_Mod_108 ft_Mod_9 (dk_at D_Mod_step 109 rfl) ?_ (hw := hob)
        refine r_iload (i := 9) hk (dk_at D_Mod_step 110 rfl) rfl ?_
        exact r_bret (b := true) hk (dk_at D_Mod_step 111 rfl) ⟨rfl, rfl, h.sc (nx' := ((th : Nat) : Int))⟩
    · have hn0 : why ≠ 0 := hn0
      have e9 : stR th ((c1, g1, t1, A1, mn1, ov1, dv1, dm1, nx1, fl1, q1, qn1, o1, on1, ln1, m1, r1, p1, fc1), why) = ((c1, g1, t1, A1, mn1, ov1, dv1, dm1, nx1, fl1, q1, qn1, o1, on1, ln1, m1, r1, p1, fc1), why) := if_neg hy
      rw [e9]
      have e10 : decide (why = -1) = false := decide_eq_false hy
      have e11 : decide (why = -1 ∨ why = 0) = false := decide_eq_false (fun z => z.elim hy hn0)
      have eT : ∀ b : Bool, b = false → V G K 10 (QE G K (fun rv ad' w' => rv = some (.int (i32 (b2i (decide (((c1, g1, t1, A1, mn1, ov1, dv1, dm1, nx1, fl1, q1, qn1, o1, on1, ln1, m1, r1, p1, fc1), why).2 = -1 ∨ ((c1, g1, t1, A1, mn1, ov1, dv1, dm1, nx1, fl1, q1, qn1, o1, on1, ln1, m1, r1, p1, fc1), why).2 = 0))))) ∧ ad' = ad ∧ TS w0 ad w' cd fu hd at_ wr (setFl ((c1, g1, t1, A1, mn1, ov1, dv1, dm1, nx1, fl1, q1, qn1, o1, on1, ln1, m1, r1, p1, fc1), why).2 ((c1, g1, t1, A1, mn1, ov1, dv1, dm1, nx1, fl1, q1, qn1, o1, on1, ln1, m1, r1, p1, fc1), why).1)) noT 0 0) 0 0 191 [some (.ref (ad (50, 0))), some (.int (i32 (nx : Nat))), some (.long (i64 v)), none, some (.int (i32 op)), some (.int (i32 d)), some (.int (i32 th)), x7, none, none] [.int (i32 (b2i b))] ad w := by
        intro b hb
        subst hb
        refine r_istore (i := 9) (ls' := [_, _, _, _, _, _, _, _, _, _]) hk (dk_at D_Mod_step 104 rfl) rfl rfl rfl ?_
        refine r_iload (i := 9) hk (dk_at D_Mod_step 105 rfl) rfl ?_
        refine r_if_eqB (t := 204) hk (dk_at D_Mod_step 106 rfl) (by decide) (fun c_195 => ?_) (fun c_195 => ?_)
        · refine r_iload (i := 9) hk (dk_at D_Mod_step 110 rfl) rfl ?_
          exact r_bret (b := false) hk (dk_at D_Mod_step 111 rfl) ⟨by rw [show decide (((c1, g1, t1, A1, mn1, ov1, dv1, dm1, nx1, fl1, q1, qn1, o1, on1, ln1, m1, r1, p1, fc1), why).2 = -1 ∨ ((c1, g1, t1, A1, mn1, ov1, dv1, dm1, nx1, fl1, q1, qn1, o1, on1, ln1, m1, r1, p1, fc1), why).2 = 0) = false from e11], rfl, h⟩
        · cases c_195
      exact eT _ e10
  refine r_iload (i := 5) hk (dk_at D_Mod_step 58 rfl) rfl ?_
  refine r_callS hk hR m_Mod_isAddress s_Mod_isAddress ml_Mod_75 (dk_at D_Mod_step 59 rfl) (c_Mod_isAddress G (z := (d : Int)) (by omega)) ?_
  refine r_if_neB (t := 117) hk (dk_at D_Mod_step 60 rfl) (by decide) (fun c_107 => ?_) (fun c_107 => ?_)
  · have hd2 : d < 200 := by have := isA_t.mp c_107; omega
    refine r_aload_n (i := 0) hk (dk_at D_Mod_step 66 rfl) rfl rfl ?_
    refine r_iload (i := 5) hk (dk_at D_Mod_step 67 rfl) rfl ?_
    refine r_callVqv hk hR m_Mod_access s_Mod_access ml_Mod_170 (dk_at D_Mod_step 68 rfl) (c_Mod_access G (a := d) h hd2 (by omega)) (fun w h => ?_) (i := (50, 0)) (hw := hob)
    clear hob
    have hob := h.ob_
    refine r_aload_n (i := 0) hk (dk_at D_Mod_step 69 rfl) rfl rfl ?_
    refine r_iload (i := 5) hk (dk_at D_Mod_step 70 rfl) rfl ?_
    refine r_callV hk hR m_Mod_value s_Mod_value ml_Mod_83 (dk_at D_Mod_step 71 rfl) (c_Mod_value G (a := d) h hd2 hc) ?_ (i := (50, 0)) (hw := hob)
    have hvr := twV_r (c d)
    refine r_lstore (i := 7) (ls' := [_, _, _, _, _, _, _, _, _, _]) hk (dk_at D_Mod_step 72 rfl) rfl rfl rfl ?_
    refine r_iload (i := 4) hk (dk_at D_Mod_step 73 rfl) rfl ?_
    refine r_callS hk hR m_Mod_reads s_Mod_reads ml_Mod_90 (dk_at D_Mod_step 74 rfl) (c_Mod_reads G (z := (op : Int)) (by omega)) ?_
    refine r_if_eqB (t := 153) hk (dk_at D_Mod_step 75 rfl) (by decide) (fun c_136 => ?_) (fun c_136 => ?_)
    · have hk89 := rk2 k h13 (by rw [← eRd]; exact c_136) ha
      refine r_iload (i := 4) hk (dk_at D_Mod_step 85 rfl) rfl ?_
      refine r_callS hk hR m_Mod_reads s_Mod_reads ml_Mod_90 (dk_at D_Mod_step 86 rfl) (c_Mod_reads G (z := (op : Int)) (by omega)) ?_
      refine r_if_eqB (t := 182) hk (dk_at D_Mod_step 87 rfl) (by decide) (fun c_158 => ?_) (fun c_158 => ?_)
      · refine r_aload_n (i := 0) hk (dk_at D_Mod_step 99 rfl) rfl rfl ?_
        refine r_iload (i := 4) hk (dk_at D_Mod_step 100 rfl) rfl ?_
        refine r_iload (i := 5) hk (dk_at D_Mod_step 101 rfl) rfl ?_
        refine r_iload_n (i := 1) hk (dk_at D_Mod_step 102 rfl) rfl rfl ?_
        rcases hk89 with e | e
        · subst e
          refine r_callVq hk hR m_Mod_doWrite s_Mod_doWrite ml_Mod_181 (dk_at D_Mod_step 103 rfl) (c_Mod_doWriteS G (op := op) (a := d) h hA hdv (ops8 op hop hkn) hd2) (fun w h => ?_) (i := (50, 0)) (hw := hob)
          exact m191 _ w _ (acx_8 hd2) (show (-1 : Int) ≠ 0 by decide) h
        · subst e
          obtain rfl := ops9 op hop hkn
          refine r_callVp hk hR m_Mod_doWrite s_Mod_doWrite ml_Mod_181 (dk_at D_Mod_step 103 rfl) (c_Mod_doWriteC G (a := d) h hq hqn hd2) (fun v a' w hp => ?_) (fun _ _ _ z => z.elim) (i := (50, 0)) (hw := hob)
          obtain ⟨rfl, hp⟩ := hp
          rcases hp with ⟨z, rfl, h⟩ | ⟨z, rfl, h⟩
          · exact m191 _ w _ ((acx_9 hd2).trans (rdc_0 z)) (show (4 : Int) ≠ 0 by decide) h
          · exact m191 _ w _ ((acx_9 hd2).trans (rdc_1 z)) (show (-1 : Int) ≠ 0 by decide) h
      · rw [c_136] at c_158; cases c_158
    · refine r_lload (i := 7) hk (dk_at D_Mod_step 76 rfl) rfl ?_
      refine r_lconst (z := 0) hk (dk_at D_Mod_step 77 rfl) rfl ?_
      refine r_lc_ge (t := 153) hk (dk_at D_Mod_step 78 rfl) (dk_at D_Mod_step 79 rfl) (by decide) (by omega) (by omega) (fun c_143 => ?_) (fun c_143 => ?_)
      · have hv1 : vld (c d) = true := by
          cases e : vld (c d) with
          | true => rfl
          | false => rw [twV_f e] at c_143; omega
        rw [twV_t hv1]
        refine r_iload (i := 4) hk (dk_at D_Mod_step 85 rfl) rfl ?_
        refine r_callS hk hR m_Mod_reads s_Mod_reads ml_Mod_90 (dk_at D_Mod_step 86 rfl) (c_Mod_reads G (z := (op : Int)) (by omega)) ?_
        refine r_if_eqB (t := 182) hk (dk_at D_Mod_step 87 rfl) (by decide) (fun c_158 => ?_) (fun c_158 => ?_)
        · rw [c_136] at c_158; cases c_158
        · refine r_aload_n (i := 0) hk (dk_at D_Mod_step 88 rfl) rfl rfl ?_
          refine r_iload (i := 4) hk (dk_at D_Mod_step 89 rfl) rfl ?_
          refine r_iload (i := 5) hk (dk_at D_Mod_step 90 rfl) rfl ?_
          refine r_lload (i := 7) hk (dk_at D_Mod_step 91 rfl) rfl ?_
          refine r_aload_n (i := 0) hk (dk_at D_Mod_step 92 rfl) rfl rfl ?_
          refine r_get hk fl_Mod_13 (dk_at D_Mod_step 93 rfl) ?_ (hw := hob)
          refine r_iload (i := 5) hk (dk_at D_Mod_step 94 rfl) rfl ?_
          refine r_zaload (ix := d) hk (dk_at D_Mod_step 95 rfl) ?_ (hw := h.g_)
          refine r_iload_n (i := 1) hk (dk_at D_Mod_step 96 rfl) rfl rfl ?_
          rcases rk1 k h13 (by rw [← eRd]; exact c_136) with e | e
          · subst e
            obtain rfl := ops7 op hop hkn
            refine r_callVq hk hR m_Mod_doRead s_Mod_doRead ml_Mod_177 (dk_at D_Mod_step 97 rfl) (c_Mod_doReadL G (s := d) (v := val (c d)) (sg := g d) h hc hdv hd2 hnx2 (by omega) rfl) (fun w h => ?_) (i := (50, 0)) (hw := hob)
            refine r_goto (t := 191) hk (dk_at D_Mod_step 98 rfl) (by decide) ?_
            have ei : ∀ x : Int, (if x = -1 then (-1) else x) = x := fun x => by split <;> omega
            rw [ei] at h
            exact m191 _ w _ (acx_7 hd2) (lk_n0 _ _ _ _ _ _) h
          · refine r_callVq hk hR m_Mod_doRead s_Mod_doRead ml_Mod_177 (dk_at D_Mod_step 97 rfl) (c_Mod_doRead G (k := k) (op := op) (d := d) (v := val (c d)) (sg := g d) (fc := fc) h hA (val_lt _) hon hkn (by omega) (by omega) e.1) (fun w h => ?_) (i := (50, 0)) (hw := hob)
            refine r_goto (t := 191) hk (dk_at D_Mod_step 98 rfl) (by decide) ?_
            exact m191 _ w _ (acx_w hd2 hv1 (by omega) (by omega) (by omega)) wrk_n0 h
      · have hv0 : vld (c d) = false := by
          cases e : vld (c d) with
          | false => rfl
          | true => rw [twV_t e] at c_143; omega
        have eX : acx k op d (c, g, t, A, mn, ov, dv, dm, nx, -1, q, qn, o, on, ln, m, r, p, fc) = ((c, g, comeT d t, A, mn, ov, dv, dm, nx, -1, q, qn, o, on, ln, m, r, p, fc), 1) := by
          rcases rk1 k h13 (by rw [← eRd]; exact c_136) with e | e
          · subst e; exact acx_i7 hd2 hv0
          · exact acx_i hd2 e.2 hv0
        rw [eX, show stR th ((c, g, comeT d t, A, mn, ov, dv, dm, nx, -1, q, qn, o, on, ln, m, r, p, fc), 1) = ((c, g, comeT d t, A, mn, ov, dv, dm, nx, -1, q, qn, o, on, ln, m, r, p, fc), 1) from if_neg (show ¬ ((1 : Int) = -1) by decide)]
        refine r_aload_n (i := 0) hk (dk_at D_Mod_step 80 rfl) rfl rfl ?_
        refine r_iconst hk (dk_at D_Mod_step 81 rfl) ?_
        refine r_iload_n (i := 1) hk (dk_at D_Mod_step 82 rfl) rfl rfl ?_
        refine r_callVq hk hR m_Mod_stop s_Mod_stop ml_Mod_134 (dk_at D_Mod_step 83 rfl) (c_Mod_stop G (z := 1) (y := ((nx : Nat) : Int)) h) (fun w h => ?_) (i := (50, 0)) (hw := hob)
        exact r_bret (b := false) hk (dk_at D_Mod_step 84 rfl) ⟨rfl, rfl, h⟩
  · have hd2 : ¬ d < 200 := fun z => absurd ((isA_t (z := (d : Int))).mpr ⟨by omega, by omega⟩) (by rw [c_107]; decide)
    rw [acx_no hd2, show stR th ((c, g, t, A, mn, ov, dv, dm, nx, -1, q, qn, o, on, ln, m, r, p, fc), 2) = ((c, g, t, A, mn, ov, dv, dm, nx, -1, q, qn, o, on, ln, m, r, p, fc), 2) from if_neg (show ¬ ((2 : Int) = -1) by decide)]
    refine r_aload_n (i := 0) hk (dk_at D_Mod_step 61 rfl) rfl rfl ?_
    refine r_iconst hk (dk_at D_Mod_step 62 rfl) ?_
    refine r_iload_n (i := 1) hk (dk_at D_Mod_step 63 rfl) rfl rfl ?_
    refine r_callVq hk hR m_Mod_stop s_Mod_stop ml_Mod_134 (dk_at D_Mod_step 64 rfl) (c_Mod_stop G (z := 2) (y := ((nx : Nat) : Int)) h) (fun w h => ?_) (i := (50, 0)) (hw := hob)
    exact r_bret (b := false) hk (dk_at D_Mod_step 65 rfl) ⟨rfl, rfl, h⟩
