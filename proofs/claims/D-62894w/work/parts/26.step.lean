/-! DrumMachine: step -/
theorem kn_12 {op : Nat} (h : kn op = some 12) : (44 ≤ op ∧ op ≤ 47) ∨ (90 ≤ op ∧ op ≤ 99) := by
  have h9 : ∀ n, n < 100 → (kn n == some 12) = true → (44 ≤ n ∧ n ≤ 47) ∨ (90 ≤ n ∧ n ≤ 99) := by decide
  exact h9 op (kn_lt h).2 (by rw [h]; rfl)
theorem acs_r {k : Nat} (h : acs k = true) (h13 : k < 13) : 2 ≤ k ∧ k ≤ 10 := by
  have : ∀ k, k < 13 → acs k = true → 2 ≤ k ∧ k ≤ 10 := by decide
  exact this k h13 h
theorem knd_nat (n : Nat) : knd (n : Int) = kn n := by unfold knd; rw [if_neg (by omega), Int.toNat_natCast]
theorem c_Mach_step (G : Gt) {w0 w : Wt} {ad : Ix → Nat} {c : Nat → Nat → Nat} {g : Nat → Bool} {t : Nat} {A : Nat} {mn : Bool} {ov : Bool} {dv : Nat} {dm : Bool} {nx : Nat} {fl : Int} {q : Nat → Nat × Bool} {qn : Nat} {o : Nat → Nat × Bool} {on : Nat} {ln : Nat → Int × Int × Int × Int} {m : Nat} {r : Nat → Bool} {p : Nat → Int} {fc : Nat} (h : WW w0 ad w (c, g, t, A, mn, ov, dv, dm, nx, fl, q, qn, o, on, ln, m, r, p, fc)) (hw : wf (c, g, t, A, mn, ov, dv, dm, nx, fl, q, qn, o, on, ln, m, r, p, fc)) (ht : t < 100000000000) : Mt G y_Mach_step w_Mach_step 5 0 0 [.ref (ad (0, 0))] ad w (fun rv ad' w' => rv = some (.int (i32 (stp (c, g, t, A, mn, ov, dv, dm, nx, fl, q, qn, o, on, ln, m, r, p, fc)).2)) ∧ ad' = ad ∧ WW w0 ad w' (stp (c, g, t, A, mn, ov, dv, dm, nx, fl, q, qn, o, on, ln, m, r, p, fc)).1) noT := by
  have hw1 : wf (c, g, comeT nx t, A, mn, ov, dv, dm, nx, fl, q, qn, o, on, ln, m, r, p, fc) := hw
  have hct := comeT_le nx t
  obtain ⟨hc, hA, hdv, hnx, hfl, hq, hqn, ho, hon, hln, hm, hp, hfc⟩ := hw
  refine Mt.to [some (.ref (ad (0, 0))), none, none, none, none, none] (fun K hk hR hin => ?_)
  have h0 := h.m0
  have two : ∀ (a b : St × Int), nx < 200 → vld (c nx) = true → (if nx < 200 then (if vld (c nx) = true then a else b) else ((c, g, t, A, mn, ov, dv, dm, nx, fl, q, qn, o, on, ln, m, r, p, fc), 2)) = a := fun a b h1 h2 => (if_pos h1).trans (if_pos h2)
  have tail : ∀ (op d th : Nat) (w : Wt), op < 100 → d < 10000 → th < 10000 → WW w0 ad w (c, g, comeT nx t, A, mn, ov, dv, dm, nx, fl, q, qn, o, on, ln, m, r, p, fc) → V G K 6 (QE G K (fun rv ad' w' => rv = some (.int (i32 (stq (kn op) op d th (c, g, comeT nx t, A, mn, ov, dv, dm, nx, fl, q, qn, o, on, ln, m, r, p, fc)).2)) ∧ ad' = ad ∧ WW w0 ad w' (stq (kn op) op d th (c, g, comeT nx t, A, mn, ov, dv, dm, nx, fl, q, qn, o, on, ln, m, r, p, fc)).1) noT 0 0) 0 0 85 [some (.ref (ad (0, 0))), some (.int (i32 op)), some (.int (i32 d)), some (.int (i32 th)), none, none] [] ad w := by
    intro op d th w hop hd4 hth h
    have h0 := h.m0
    refine r_iload_n (i := 1) hk (dk_at D_Mach_step 44 rfl) rfl rfl ?_
    refine r_callS hk hR m_Mach_kind s_Mach_kind ml_Mach_223 (dk_at D_Mach_step 45 rfl) (c_Mach_kind G (z := (op : Int)) (by omega)) ?_
    rw [knd_nat]
    cases hkn : kn op with
    | none =>
      refine r_astoreN (ls' := [_, _, _, _, _, _]) hk (dk_at D_Mach_step 46 rfl) rfl rfl rfl ?_
      refine r_aloadN hk (dk_at D_Mach_step 47 rfl) rfl ?_
      refine r_ifnonnullN hk (dk_at D_Mach_step 48 rfl) ?_
      refine r_iconst hk (dk_at D_Mach_step 49 rfl) ?_
      exact r_iret hk (dk_at D_Mach_step 50 rfl) ⟨rfl, rfl, h⟩
    | some k =>
      have h13 := (kn_lt hkn).1
      refine r_astore (i := 4) (ls' := [_, _, _, _, _, _]) hk (dk_at D_Mach_step 46 rfl) rfl rfl rfl ?_
      refine r_aload (i := 4) hk (dk_at D_Mach_step 47 rfl) rfl ?_
      refine r_ifnonnull (t := 98) hk (dk_at D_Mach_step 48 rfl) (by decide) ?_
      refine r_aload (i := 4) hk (dk_at D_Mach_step 51 rfl) rfl ?_
      refine r_callS hk hR m_Mach_accesses s_Mach_accesses ml_Mach_43 (dk_at D_Mach_step 52 rfl) (c_Mach_accesses G (k := k) h13) ?_
      refine r_if_eqB (t := 117) hk (dk_at D_Mach_step 53 rfl) (by decide) (fun c_103 => ?_) (fun c_103 => ?_)
      · have e : stq (some k) op d th (c, g, comeT nx t, A, mn, ov, dv, dm, nx, fl, q, qn, o, on, ln, m, r, p, fc) = ((c, g, if k = 11 then comeT nx t + tks 11 op d else comeT nx t, if k = 11 then shA op d A else A, mn, if k = 12 then brO op ov else ov, dv, dm, if k = 12 ∧ brB op A mn ov dv = true then d else th, fl, q, qn, o, on, ln, m, r, p, fc), if k = 1 then 0 else -1) := if_neg (by rw [c_103]; decide)
        rw [e]
        have fin : ∀ (w : Wt) (b : Bool) (n : Nat) (z : Value), WW w0 ad w (c, g, if k = 11 then comeT nx t + tks 11 op d else comeT nx t, if k = 11 then shA op d A else A, mn, b, dv, dm, nx, fl, q, qn, o, on, ln, m, r, p, fc) → V G K 6 (QE G K (fun rv ad' w' => rv = some (.int (i32 (if k = 1 then 0 else -1))) ∧ ad' = ad ∧ WW w0 ad w' (c, g, if k = 11 then comeT nx t + tks 11 op d else comeT nx t, if k = 11 then shA op d A else A, mn, b, dv, dm, n, fl, q, qn, o, on, ln, m, r, p, fc)) noT 0 0) 0 0 165 [some (.ref (ad (0, 0))), some (.int (i32 op)), some (.int (i32 d)), some (.int (i32 th)), some (.ref (G.2.2.2.1 k)), some z] [.int (i32 n), .ref (ad (0, 0))] ad w := by
          intro w b n z h
          have h0 := h.m0
          refine r_put (fs' := [_, _, _, _, _, _, _, _, _, _, _, _, _]) hk fl_Mach_220 ft_Mach_11 (dk_at D_Mach_step 85 rfl) ?_
          refine r_gp (fun w => WW w0 ad w (c, g, if k = 11 then comeT nx t + tks 11 op d else comeT nx t, if k = 11 then shA op d A else A, mn, b, dv, dm, n, fl, q, qn, o, on, ln, m, r, p, fc)) (h.mach (nx' := n) (fl' := fl)) (fun w h => ?_)
          refine r_aload (i := 4) hk (dk_at D_Mach_step 86 rfl) rfl ?_
          refine r_getK (k := 1) hk kf_Mach_7 rfl (dk_at D_Mach_step 87 rfl) ?_
          refine r_acmp_ne (t := 180) hk (dk_at D_Mach_step 88 rfl) (by decide) (fun c_173 => ?_) (fun c_173 => ?_)
          · rw [if_neg (show ¬ k = 1 from fun z => c_173 (by rw [z]))]
            refine r_iconst hk (dk_at D_Mach_step 91 rfl) ?_
            exact r_iret hk (dk_at D_Mach_step 92 rfl) ⟨rfl, rfl, h⟩
          · rw [if_pos (show k = 1 from kinds_ne hk h13 (by decide) (Decidable.byContradiction c_173))]
            refine r_iconst hk (dk_at D_Mach_step 89 rfl) ?_
            refine r_goto (t := 181) hk (dk_at D_Mach_step 90 rfl) (by decide) ?_
            exact r_iret hk (dk_at D_Mach_step 92 rfl) ⟨rfl, rfl, h⟩
        have m143 : ∀ (w : Wt) (z : Value), WW w0 ad w (c, g, if k = 11 then comeT nx t + tks 11 op d else comeT nx t, if k = 11 then shA op d A else A, mn, ov, dv, dm, nx, fl, q, qn, o, on, ln, m, r, p, fc) → V G K 6 (QE G K (fun rv ad' w' => rv = some (.int (i32 (if k = 1 then 0 else -1))) ∧ ad' = ad ∧ WW w0 ad w' (c, g, if k = 11 then comeT nx t + tks 11 op d else comeT nx t, if k = 11 then shA op d A else A, mn, if k = 12 then brO op ov else ov, dv, dm, if k = 12 ∧ brB op A mn ov dv = true then d else th, fl, q, qn, o, on, ln, m, r, p, fc)) noT 0 0) 0 0 143 [some (.ref (ad (0, 0))), some (.int (i32 op)), some (.int (i32 d)), some (.int (i32 th)), some (.ref (G.2.2.2.1 k)), some z] [] ad w := by
          intro w z h
          have h0 := h.m0
          refine r_aload_n (i := 0) hk (dk_at D_Mach_step 74 rfl) rfl rfl ?_
          refine r_aload (i := 4) hk (dk_at D_Mach_step 75 rfl) rfl ?_
          refine r_getK (k := 12) hk kf_Mach_40 rfl (dk_at D_Mach_step 76 rfl) ?_
          refine r_acmp_ne (t := 164) hk (dk_at D_Mach_step 77 rfl) (by decide) (fun c_149 => ?_) (fun c_149 => ?_)
          · have n12 : k ≠ 12 := fun z => c_149 (by rw [z])
            refine r_iload_n (i := 3) hk (dk_at D_Mach_step 84 rfl) rfl rfl ?_
            have := fin w ov th z h
            rw [if_neg n12, if_neg (show ¬ (k = 12 ∧ brB op A mn ov dv = true) from fun z => n12 z.1)]
            exact this
          · have e12 : k = 12 := kinds_ne hk h13 (by decide) (Decidable.byContradiction c_149)
            have nn : ¬ k = 11 := by omega
            subst e12
            rw [if_pos rfl]
            refine r_aload_n (i := 0) hk (dk_at D_Mach_step 78 rfl) rfl rfl ?_
            refine r_iload_n (i := 1) hk (dk_at D_Mach_step 79 rfl) rfl rfl ?_
            refine r_callVq hk hR m_Mach_branches s_Mach_branches ml_Mach_234 (dk_at D_Mach_step 80 rfl) (c_Mach_branches G (op := op) h hA (kn_12 hkn)) (fun w h => ?_) (i := (0, 0)) (hw := h0)
            refine r_if_eqB (t := 164) hk (dk_at D_Mach_step 81 rfl) (by decide) (fun c_157 => ?_) (fun c_157 => ?_)
            · refine r_iload_n (i := 3) hk (dk_at D_Mach_step 84 rfl) rfl rfl ?_
              have c9 : brB op A mn ov dv = false := c_157
              rw [if_neg (show ¬ ((12 : Nat) = 12 ∧ brB op A mn ov dv = true) from fun z => by rw [c9] at z; exact absurd z.2 (by decide))]
              exact fin w _ th z h
            · refine r_iload_n (i := 2) hk (dk_at D_Mach_step 82 rfl) rfl rfl ?_
              refine r_goto (t := 165) hk (dk_at D_Mach_step 83 rfl) (by decide) ?_
              have c9 : brB op A mn ov dv = true := c_157
              rw [if_pos (show ((12 : Nat) = 12 ∧ brB op A mn ov dv = true) from ⟨rfl, c9⟩)]
              exact fin w _ d z h
        refine r_iconst hk (dk_at D_Mach_step 60 rfl) ?_
        refine r_istore (i := 5) (ls' := [_, _, _, _, _, _]) hk (dk_at D_Mach_step 61 rfl) rfl rfl rfl ?_
        refine r_iload (i := 5) hk (dk_at D_Mach_step 62 rfl) rfl ?_
        refine r_iconst hk (dk_at D_Mach_step 63 rfl) ?_
        refine r_icmp_eq (t := 129) hk (dk_at D_Mach_step 64 rfl) (by decide) (by omega) (by omega) (fun c_123 => ?_) (fun c_123 => ?_)
        · refine r_aload (i := 4) hk (dk_at D_Mach_step 67 rfl) rfl ?_
          refine r_getK (k := 11) hk kf_Mach_37 rfl (dk_at D_Mach_step 68 rfl) ?_
          refine r_acmp_ne (t := 143) hk (dk_at D_Mach_step 69 rfl) (by decide) (fun c_134 => ?_) (fun c_134 => ?_)
          · have n11 : ¬ k = 11 := fun z => c_134 (by rw [z])
            refine m143 w _ ?_
            rw [if_neg n11, if_neg n11]
            exact h
          · have e11 : k = 11 := kinds_ne hk h13 (by decide) (Decidable.byContradiction c_134)
            subst e11
            refine r_aload_n (i := 0) hk (dk_at D_Mach_step 70 rfl) rfl rfl ?_
            refine r_iload_n (i := 1) hk (dk_at D_Mach_step 71 rfl) rfl rfl ?_
            refine r_iload_n (i := 2) hk (dk_at D_Mach_step 72 rfl) rfl rfl ?_
            refine r_callVqv hk hR m_Mach_shift s_Mach_shift ml_Mach_230 (dk_at D_Mach_step 73 rfl) (c_Mach_shift G (op := op) (d := d) h hA hop hd4) (fun w h => ?_) (i := (0, 0)) (hw := h0)
            exact m143 w _ h
        · exact absurd rfl c_123
      · have hkr := acs_r c_103 h13
        have e : stq (some k) op d th (c, g, comeT nx t, A, mn, ov, dv, dm, nx, fl, q, qn, o, on, ln, m, r, p, fc) = stR th (acx k op d (c, g, comeT nx t, A, mn, ov, dv, dm, nx, fl, q, qn, o, on, ln, m, r, p, fc)) := if_pos c_103
        rw [e]
        have hkp := acx_kp (k := k) (op := op) (a := d) hw1
        refine r_aload_n (i := 0) hk (dk_at D_Mach_step 54 rfl) rfl rfl ?_
        refine r_aload (i := 4) hk (dk_at D_Mach_step 55 rfl) rfl ?_
        refine r_iload_n (i := 1) hk (dk_at D_Mach_step 56 rfl) rfl rfl ?_
        refine r_iload_n (i := 2) hk (dk_at D_Mach_step 57 rfl) rfl rfl ?_
        refine r_callVq hk hR m_Mach_access s_Mach_access ml_Mach_227 (dk_at D_Mach_step 58 rfl) (c_Mach_access G (k := k) (op := op) (a := d) h hw1 (by omega) hop hd4 hkr) (fun w h => ?_) (i := (0, 0)) (hw := h0)
        generalize acx k op d (c, g, comeT nx t, A, mn, ov, dv, dm, nx, fl, q, qn, o, on, ln, m, r, p, fc) = R at h hkp ⊢
        obtain ⟨⟨c1, g1, t1, A1, mn1, ov1, dv1, dm1, nx1, fl1, q1, qn1, o1, on1, ln1, m1, r1, p1, fc1⟩, why⟩ := R
        obtain ⟨-, hwhy, -⟩ := hkp
        have h : WW w0 ad w (c1, g1, t1, A1, mn1, ov1, dv1, dm1, nx1, fl1, q1, qn1, o1, on1, ln1, m1, r1, p1, fc1) := h
        have hwhy : -1 ≤ why ∧ why ≤ 5 := hwhy
        clear h0
        have h0 := h.m0
        show V G K 6 (QE G K (fun rv ad' w' => rv = some (.int (i32 (stR th ((c1, g1, t1, A1, mn1, ov1, dv1, dm1, nx1, fl1, q1, qn1, o1, on1, ln1, m1, r1, p1, fc1), why)).2)) ∧ ad' = ad ∧ WW w0 ad w' (stR th ((c1, g1, t1, A1, mn1, ov1, dv1, dm1, nx1, fl1, q1, qn1, o1, on1, ln1, m1, r1, p1, fc1), why)).1) noT 0 0) 0 0 114 _ [.int (i32 why)] ad w
        refine r_goto (t := 118) hk (dk_at D_Mach_step 59 rfl) (by decide) ?_
        
        refine r_istore (i := 5) (ls' := [_, _, _, _, _, _]) hk (dk_at D_Mach_step 61 rfl) rfl rfl rfl ?_
        refine r_iload (i := 5) hk (dk_at D_Mach_step 62 rfl) rfl ?_
        refine r_iconst hk (dk_at D_Mach_step 63 rfl) ?_
        refine r_icmp_eq (t := 129) hk (dk_at D_Mach_step 64 rfl) (by decide) (by omega) (by omega) (fun c_123 => ?_) (fun c_123 => ?_)
        · have e2 : stR th ((c1, g1, t1, A1, mn1, ov1, dv1, dm1, nx1, fl1, q1, qn1, o1, on1, ln1, m1, r1, p1, fc1), why) = ((c1, g1, t1, A1, mn1, ov1, dv1, dm1, th, fl1, q1, qn1, o1, on1, ln1, m1, r1, p1, fc1), -1) := if_pos c_123
          rw [e2]
          refine r_aload (i := 4) hk (dk_at D_Mach_step 67 rfl) rfl ?_
          refine r_getK (k := 11) hk kf_Mach_37 rfl (dk_at D_Mach_step 68 rfl) ?_
          refine r_acmp_ne (t := 143) hk (dk_at D_Mach_step 69 rfl) (by decide) (fun c_134 => ?_) (fun c_134 => ?_)
          · refine r_aload_n (i := 0) hk (dk_at D_Mach_step 74 rfl) rfl rfl ?_
            refine r_aload (i := 4) hk (dk_at D_Mach_step 75 rfl) rfl ?_
            refine r_getK (k := 12) hk kf_Mach_40 rfl (dk_at D_Mach_step 76 rfl) ?_
            refine r_acmp_ne (t := 164) hk (dk_at D_Mach_step 77 rfl) (by decide) (fun c_149 => ?_) (fun c_149 => ?_)
            · refine r_iload_n (i := 3) hk (dk_at D_Mach_step 84 rfl) rfl rfl ?_
              refine r_put (fs' := [_, _, _, _, _, _, _, _, _, _, _, _, _]) hk fl_Mach_220 ft_Mach_11 (dk_at D_Mach_step 85 rfl) ?_
              refine r_gp (fun w => WW w0 ad w (c1, g1, t1, A1, mn1, ov1, dv1, dm1, th, fl1, q1, qn1, o1, on1, ln1, m1, r1, p1, fc1)) (h.mach (nx' := th) (fl' := fl1)) (fun w h => ?_)
              refine r_aload (i := 4) hk (dk_at D_Mach_step 86 rfl) rfl ?_
              refine r_getK (k := 1) hk kf_Mach_7 rfl (dk_at D_Mach_step 87 rfl) ?_
              refine r_acmp_ne (t := 180) hk (dk_at D_Mach_step 88 rfl) (by decide) (fun c_173 => ?_) (fun c_173 => ?_)
              · refine r_iconst hk (dk_at D_Mach_step 91 rfl) ?_
                exact r_iret hk (dk_at D_Mach_step 92 rfl) ⟨rfl, rfl, h⟩
              · exact absurd (kinds_ne hk h13 (by decide) (Decidable.byContradiction c_173)) (by omega)
            · exact absurd (kinds_ne hk h13 (by decide) (Decidable.byContradiction c_149)) (by omega)
          · exact absurd (kinds_ne hk h13 (by decide) (Decidable.byContradiction c_134)) (by omega)
        · have e2 : stR th ((c1, g1, t1, A1, mn1, ov1, dv1, dm1, nx1, fl1, q1, qn1, o1, on1, ln1, m1, r1, p1, fc1), why) = ((c1, g1, t1, A1, mn1, ov1, dv1, dm1, nx1, fl1, q1, qn1, o1, on1, ln1, m1, r1, p1, fc1), why) := if_neg c_123
          rw [e2]
          refine r_iload (i := 5) hk (dk_at D_Mach_step 65 rfl) rfl ?_
          exact r_iret hk (dk_at D_Mach_step 66 rfl) ⟨rfl, rfl, h⟩
  refine r_aload_n (i := 0) hk (dk_at D_Mach_step 0 rfl) rfl rfl ?_
  refine r_get hk fl_Mach_220 (dk_at D_Mach_step 1 rfl) ?_ (hw := h0)
  refine r_callS hk hR m_Mach_isAddress s_Mach_isAddress ml_Mach_184 (dk_at D_Mach_step 2 rfl) (c_Mach_isAddress G (z := (nx : Int)) (by omega)) ?_
  refine r_if_neB (t := 12) hk (dk_at D_Mach_step 3 rfl) (by decide) (fun c_7 => ?_) (fun c_7 => ?_)
  · have hn : nx < 200 := by have := isA_t.mp c_7; omega
    refine r_aload_n (i := 0) hk (dk_at D_Mach_step 6 rfl) rfl rfl ?_
    refine r_get hk fl_Mach_62 (dk_at D_Mach_step 7 rfl) ?_ (hw := h0)
    refine r_aload_n (i := 0) hk (dk_at D_Mach_step 8 rfl) rfl rfl ?_
    refine r_get hk fl_Mach_220 (dk_at D_Mach_step 9 rfl) ?_ (hw := h0)
    refine r_callVv hk hR m_Drum_come s_Drum_come ml_Mach_187 (dk_at D_Mach_step 10 rfl) (c_Drum_come G h.d1 hn (by omega)) ?_ (i := (1, 0)) (hw := h.d1)
    refine r_gp (fun w => WW w0 ad w (c, g, comeT nx t, A, mn, ov, dv, dm, nx, fl, q, qn, o, on, ln, m, r, p, fc)) h.time (fun w h => ?_)
    have h0 := h.m0
    refine r_aload_n (i := 0) hk (dk_at D_Mach_step 11 rfl) rfl rfl ?_
    refine r_get hk fl_Mach_62 (dk_at D_Mach_step 12 rfl) ?_ (hw := h0)
    refine r_aload_n (i := 0) hk (dk_at D_Mach_step 13 rfl) rfl rfl ?_
    refine r_get hk fl_Mach_220 (dk_at D_Mach_step 14 rfl) ?_ (hw := h0)
    refine r_callV hk hR m_Drum_isValid s_Drum_isValid ml_Mach_147 (dk_at D_Mach_step 15 rfl) (c_Drum_isValid G h.d1 h.d2 (h.d3 hn) hn (fun k _ => hc nx k)) ?_ (i := (1, 0)) (hw := h.d1)
    refine r_if_neB (t := 39) hk (dk_at D_Mach_step 16 rfl) (by decide) (fun c_34 => ?_) (fun c_34 => ?_)
    · have e : stp (c, g, t, A, mn, ov, dv, dm, nx, fl, q, qn, o, on, ln, m, r, p, fc) = stq (kn (val (c nx) / 10 ^ 8 % 10 ^ 2)) (val (c nx) / 10 ^ 8 % 10 ^ 2) (val (c nx) / 10 ^ 4 % 10 ^ 4) (val (c nx) / 10 ^ 0 % 10 ^ 4) (c, g, comeT nx t, A, mn, ov, dv, dm, nx, fl, q, qn, o, on, ln, m, r, p, fc) := (if_pos hn).trans (if_pos c_34)
      rw [e]
      obtain ⟨x12, f12, e12, e13⟩ := h.s12
      refine r_aload_n (i := 0) hk (dk_at D_Mach_step 19 rfl) rfl rfl ?_
      refine r_get hk fl_Mach_62 (dk_at D_Mach_step 20 rfl) ?_ (hw := h0)
      refine r_aload_n (i := 0) hk (dk_at D_Mach_step 21 rfl) rfl rfl ?_
      refine r_get hk fl_Mach_220 (dk_at D_Mach_step 22 rfl) ?_ (hw := h0)
      refine r_aload_n (i := 0) hk (dk_at D_Mach_step 23 rfl) rfl rfl ?_
      refine r_get hk fl_Mach_80 (dk_at D_Mach_step 24 rfl) ?_ (hw := h0)
      refine r_callVv hk hR m_Drum_fetch s_Drum_fetch ml_Mach_151 (dk_at D_Mach_step 25 rfl) (c_Drum_fetch G h.d1 h.d2 (h.d3 hn) hn (fun k _ => hc nx k) c_34 e12 e13) ?_ (i := (1, 0)) (hw := h.d1)
      refine r_gp (fun w => WW w0 ad w (c, g, comeT nx t, A, mn, ov, dv, dm, nx, fl, q, qn, o, on, ln, m, r, p, fc) ∧ tW ad w (12, 0) (13, 0) (val (c nx)) (g nx)) ⟨h.inst, up_s, (up_n (by intro e; cases e)).trans up_s⟩ (fun w h => ?_)
      obtain ⟨h, h12⟩ := h
      have h0 := h.m0
      refine r_aload_n (i := 0) hk (dk_at D_Mach_step 26 rfl) rfl rfl ?_
      refine r_get hk fl_Mach_80 (dk_at D_Mach_step 27 rfl) ?_ (hw := h0)
      refine r_bipush hk (dk_at D_Mach_step 28 rfl) (by decide) ?_
      refine r_iconst hk (dk_at D_Mach_step 29 rfl) ?_
      refine r_callV hk hR m_Word_part s_Word_part ml_Mach_171 (dk_at D_Mach_step 30 rfl) (c_Word_part G (a := 8) (m := 2) h12.1 h12.2 (by decide) (by decide)) ?_ (i := (12, 0)) (hw := h12.1)
      refine r_istore_n (i := 1) (ls' := [_, _, _, _, _, _]) hk (dk_at D_Mach_step 31 rfl) rfl rfl rfl rfl ?_
      refine r_aload_n (i := 0) hk (dk_at D_Mach_step 32 rfl) rfl rfl ?_
      refine r_get hk fl_Mach_80 (dk_at D_Mach_step 33 rfl) ?_ (hw := h0)
      refine r_iconst hk (dk_at D_Mach_step 34 rfl) ?_
      refine r_iconst hk (dk_at D_Mach_step 35 rfl) ?_
      refine r_callV hk hR m_Word_part s_Word_part ml_Mach_171 (dk_at D_Mach_step 36 rfl) (c_Word_part G (a := 4) (m := 4) h12.1 h12.2 (by decide) (by decide)) ?_ (i := (12, 0)) (hw := h12.1)
      refine r_istore_n (i := 2) (ls' := [_, _, _, _, _, _]) hk (dk_at D_Mach_step 37 rfl) rfl rfl rfl rfl ?_
      refine r_aload_n (i := 0) hk (dk_at D_Mach_step 38 rfl) rfl rfl ?_
      refine r_get hk fl_Mach_80 (dk_at D_Mach_step 39 rfl) ?_ (hw := h0)
      refine r_iconst hk (dk_at D_Mach_step 40 rfl) ?_
      refine r_iconst hk (dk_at D_Mach_step 41 rfl) ?_
      refine r_callV hk hR m_Word_part s_Word_part ml_Mach_171 (dk_at D_Mach_step 42 rfl) (c_Word_part G (a := 0) (m := 4) h12.1 h12.2 (by decide) (by decide)) ?_ (i := (12, 0)) (hw := h12.1)
      refine r_istore_n (i := 3) (ls' := [_, _, _, _, _, _]) hk (dk_at D_Mach_step 43 rfl) rfl rfl rfl rfl ?_
      exact tail _ _ _ w (Nat.mod_lt _ (by decide)) (Nat.mod_lt _ (by decide)) (Nat.mod_lt _ (by decide)) h
    · have e : stp (c, g, t, A, mn, ov, dv, dm, nx, fl, q, qn, o, on, ln, m, r, p, fc) = ((c, g, comeT nx t, A, mn, ov, dv, dm, nx, fl, q, qn, o, on, ln, m, r, p, fc), 1) := (if_pos hn).trans (if_neg (by rw [c_34]; decide))
      refine r_iconst hk (dk_at D_Mach_step 17 rfl) ?_
      exact r_iret hk (dk_at D_Mach_step 18 rfl) ⟨by rw [e], rfl, by rw [e]; exact h⟩
  · have hn : ¬ nx < 200 := fun z => absurd ((isA_t (z := (nx : Int))).mpr ⟨by omega, by omega⟩) (by rw [c_7]; decide)
    have e : stp (c, g, t, A, mn, ov, dv, dm, nx, fl, q, qn, o, on, ln, m, r, p, fc) = ((c, g, t, A, mn, ov, dv, dm, nx, fl, q, qn, o, on, ln, m, r, p, fc), 2) := if_neg hn
    refine r_iconst hk (dk_at D_Mach_step 4 rfl) ?_
    exact r_iret hk (dk_at D_Mach_step 5 rfl) ⟨by rw [e], rfl, by rw [e]; exact h⟩
