/-! the assembler's world -/
def vA (w0 : Wt) (ad : Ix → Nat) (w : Wt) (ln : Nat → Ln) (m : Nat) (r : Nat → Bool) (p : Nat → Int) (op fu : Bool) (gv : Nat → Bool) (at_ td tn : Nat → Int) : Prop := eA w0 w ∧ vS ad w ln m r p op fu gv at_ td tn
theorem vA.a16 {w0 w : Wt} {ad : Ix → Nat} {ln : Nat → Ln} {m : Nat} {r : Nat → Bool} {p : Nat → Int} {op fu : Bool} {gv : Nat → Bool} {at_ td tn : Nat → Int} (h : vA w0 ad w ln m r p op fu gv at_ td tn) : w (16, 0) = some (aO ad m op fu) := h.2.1
theorem vA.a17 {w0 w : Wt} {ad : Ix → Nat} {ln : Nat → Ln} {m : Nat} {r : Nat → Bool} {p : Nat → Int} {op fu : Bool} {gv : Nat → Bool} {at_ td tn : Nat → Int} (h : vA w0 ad w ln m r p op fu gv at_ td tn) : ∃ f : Nat → Value, w (17, 0) = some (.inr (5, 40, f)) ∧ ∀ k, k < m → f k = .ref (ad (27, k)) := h.2.2.1
theorem vA.a18 {w0 w : Wt} {ad : Ix → Nat} {ln : Nat → Ln} {m : Nat} {r : Nat → Bool} {p : Nat → Int} {op fu : Bool} {gv : Nat → Bool} {at_ td tn : Nat → Int} (h : vA w0 ad w ln m r p op fu gv at_ td tn) : w (18, 0) = some (.inr (2, 200, bA r)) := h.2.2.2.1
theorem vA.a19 {w0 w : Wt} {ad : Ix → Nat} {ln : Nat → Ln} {m : Nat} {r : Nat → Bool} {p : Nat → Int} {op fu : Bool} {gv : Nat → Bool} {at_ td tn : Nat → Int} (h : vA w0 ad w ln m r p op fu gv at_ td tn) : w (19, 0) = some (.inr (2, 200, bA gv)) := h.2.2.2.2.1
theorem vA.a20 {w0 w : Wt} {ad : Ix → Nat} {ln : Nat → Ln} {m : Nat} {r : Nat → Bool} {p : Nat → Int} {op fu : Bool} {gv : Nat → Bool} {at_ td tn : Nat → Int} (h : vA w0 ad w ln m r p op fu gv at_ td tn) : w (20, 0) = some (.inr (0, 20, iA p)) := h.2.2.2.2.2.1
theorem vA.a27 {w0 w : Wt} {ad : Ix → Nat} {ln : Nat → Ln} {m : Nat} {r : Nat → Bool} {p : Nat → Int} {op fu : Bool} {gv : Nat → Bool} {at_ td tn : Nat → Int} (h : vA w0 ad w ln m r p op fu gv at_ td tn) {k : Nat} (hk : k < m) : w (27, k) = some (lO (ln k) (at_ k) (td k) (tn k)) := h.2.2.2.2.2.2 k hk
theorem vA.obj {w0 w : Wt} {ad : Ix → Nat} {ln : Nat → Ln} {m : Nat} {r : Nat → Bool} {p : Nat → Int} {op fu : Bool} {gv : Nat → Bool} {at_ td tn : Nat → Int} {op' fu' : Bool} (h : vA w0 ad w ln m r p op fu gv at_ td tn) : vA w0 ad (up w (16, 0) (some (aO ad m op' fu'))) ln m r p op' fu' gv at_ td tn := by
  obtain ⟨h0, h1, ⟨f, h2, h2'⟩, h3, h4, h5, h6⟩ := h
  exact ⟨h0.tr (eA.up rfl), up_s, ⟨f, (up_n (by intro e; cases e)).trans h2, h2'⟩, (up_n (by intro e; cases e)).trans h3, (up_n (by intro e; cases e)).trans h4, (up_n (by intro e; cases e)).trans h5, fun k hk => (up_n (by intro e; cases e)).trans (h6 k hk)⟩
theorem vA.gvs {w0 w : Wt} {ad : Ix → Nat} {ln : Nat → Ln} {m : Nat} {r : Nat → Bool} {p : Nat → Int} {op fu : Bool} {gv : Nat → Bool} {at_ td tn : Nat → Int} {gv' : Nat → Bool} (h : vA w0 ad w ln m r p op fu gv at_ td tn) : vA w0 ad (up w (19, 0) (some (.inr (2, 200, bA gv')))) ln m r p op fu gv' at_ td tn := by
  obtain ⟨h0, h1, ⟨f, h2, h2'⟩, h3, h4, h5, h6⟩ := h
  exact ⟨h0.tr (eA.up rfl), (up_n (by intro e; cases e)).trans h1, ⟨f, (up_n (by intro e; cases e)).trans h2, h2'⟩, (up_n (by intro e; cases e)).trans h3, up_s, (up_n (by intro e; cases e)).trans h5, fun k hk => (up_n (by intro e; cases e)).trans (h6 k hk)⟩
theorem vA.pls {w0 w : Wt} {ad : Ix → Nat} {ln : Nat → Ln} {m : Nat} {r : Nat → Bool} {p : Nat → Int} {op fu : Bool} {gv : Nat → Bool} {at_ td tn : Nat → Int} {p' : Nat → Int} (h : vA w0 ad w ln m r p op fu gv at_ td tn) : vA w0 ad (up w (20, 0) (some (.inr (0, 20, iA p')))) ln m r p' op fu gv at_ td tn := by
  obtain ⟨h0, h1, ⟨f, h2, h2'⟩, h3, h4, h5, h6⟩ := h
  exact ⟨h0.tr (eA.up rfl), (up_n (by intro e; cases e)).trans h1, ⟨f, (up_n (by intro e; cases e)).trans h2, h2'⟩, (up_n (by intro e; cases e)).trans h3, (up_n (by intro e; cases e)).trans h4, up_s, fun k hk => (up_n (by intro e; cases e)).trans (h6 k hk)⟩
theorem vA.lin {w0 w : Wt} {ad : Ix → Nat} {ln : Nat → Ln} {m : Nat} {r : Nat → Bool} {p : Nat → Int} {op fu : Bool} {gv : Nat → Bool} {at_ td tn : Nat → Int} {k : Nat} {x y z : Int} (h : vA w0 ad w ln m r p op fu gv at_ td tn) : vA w0 ad (up w (27, k) (some (lO (ln k) x y z))) ln m r p op fu gv (fu_ at_ k x) (fu_ td k y) (fu_ tn k z) := by
  obtain ⟨h0, h1, ⟨f, h2, h2'⟩, h3, h4, h5, h6⟩ := h
  refine ⟨h0.tr (eA.up rfl), (up_n (by intro e; cases e)).trans h1, ⟨f, (up_n (by intro e; cases e)).trans h2, h2'⟩, (up_n (by intro e; cases e)).trans h3, (up_n (by intro e; cases e)).trans h4, (up_n (by intro e; cases e)).trans h5, fun j hj => ?_⟩
  by_cases e : j = k
  · subst e; rw [up_s, fu_s, fu_s, fu_s]
  · rw [up_n (fun z => e (congrArg Prod.snd z)), fu_n e, fu_n e, fu_n e]; exact h6 j hj
theorem knd_r {z : Int} {k : Nat} (h : knd z = some k) : 0 ≤ z ∧ z < 100 ∧ k < 13 ∧ kn z.toNat = some k := by
  unfold knd at h
  split at h
  · cases h
  · have := kn_lt h
    exact ⟨by omega, by omega, this.1, h⟩
theorem okL.k {l : Ln} (h : okL l) : knd l.2.1 = some (kd l) ∧ (0 ≤ l.2.1 ∧ l.2.1 < 100) ∧ kd l < 13 ∧ (kd l = 11 → -1 ≤ l.2.2.1 ∧ l.2.2.1 < 10) ∧ (kd l ≠ 11 → isP l.2.2.1 = true) := by
  obtain ⟨h1, h2, k, h3, h4, h5⟩ := h
  have hk : kd l = k := by unfold kd; rw [h3]; rfl
  have := knd_r h3
  rw [hk]
  exact ⟨h3, ⟨this.1, this.2.1⟩, this.2.2.1, h4, h5⟩
theorem isP_r {z : Int} (h : isP z = true) : -1 ≤ z ∧ z < 1020 := by have := isP_t.mp h; omega
theorem c_Line_shifts (G : Gt) {ad : Ix → Nat} {w : Wt} {i : Ix} {l : Ln} {x y z : Int} (h : w i = some (lO l x y z)) (hl : okL l) : Mt G y_Line_shifts w_Line_shifts 1 0 0 [.ref (ad i)] ad w (ex (some (.int (i32 (b2i (decide (kd l = 11)))))) ad w) noT := by
  obtain ⟨k1, k2, k3, -, -⟩ := hl.k
  refine Mt.to [some (.ref (ad i))] (fun K hk hR hin => ?_)
  refine r_aload_n (i := 0) hk (dk_at D_Line_shifts 0 rfl) rfl rfl ?_
  refine r_get hk fl_Line_13 (dk_at D_Line_shifts 1 rfl) ?_ (hw := h)
  refine r_callS hk hR m_Mach_kind s_Mach_kind ml_Line_22 (dk_at D_Line_shifts 2 rfl) (c_Mach_kind G (z := l.2.1) (by omega)) ?_
  rw [k1]
  refine r_top (show kv G (some (kd l)) = .ref (G.2.2.2.1 (kd l)) from rfl) ?_
  refine r_getK (k := 11) hk kf_Line_28 rfl (dk_at D_Line_shifts 3 rfl) ?_
  refine r_acmp_ne (t := 17) hk (dk_at D_Line_shifts 4 rfl) (by decide) (fun c_10 => ?_) (fun c_10 => ?_)
  · rw [decide_eq_false (show ¬ kd l = 11 from fun z => c_10 (by rw [z]))]
    refine r_iconst hk (dk_at D_Line_shifts 7 rfl) ?_
    first | exact r_bret (b := true) hk (dk_at D_Line_shifts 8 rfl) ex.rf | exact r_bret (b := false) hk (dk_at D_Line_shifts 8 rfl) ex.rf
  · rw [decide_eq_true (show kd l = 11 from kinds_ne hk k3 (by decide) (Decidable.byContradiction c_10))]
    refine r_iconst hk (dk_at D_Line_shifts 5 rfl) ?_
    refine r_goto (t := 18) hk (dk_at D_Line_shifts 6 rfl) (by decide) ?_
    first | exact r_bret (b := true) hk (dk_at D_Line_shifts 8 rfl) ex.rf | exact r_bret (b := false) hk (dk_at D_Line_shifts 8 rfl) ex.rf
theorem c_Asm_take (G : Gt) {w0 w : Wt} {ad : Ix → Nat} {ln : Nat → Ln} {m : Nat} {r : Nat → Bool} {p : Nat → Int} {op fu : Bool} {gv : Nat → Bool} {at_ td tn : Nat → Int} {b : Nat} (h : vA w0 ad w ln m r p op fu gv at_ td tn) (hb : b < 1000000) : Mt G y_Asm_take w_Asm_take 0 0 0 [.ref (ad (16, 0)), .int (i32 b)] ad w (fun rv ad' w' => rv = some (.int (i32 (tk op b (gv, fu, p)).2)) ∧ ad' = ad ∧ vA w0 ad w' ln m r p op ((tk op b (gv, fu, p)).1.2.1) ((tk op b (gv, fu, p)).1.1) at_ td tn) noT := by
  refine Mt.to [some (.ref (ad (16, 0))), some (.int (i32 b)), none, none] (fun K hk hR hin => ?_)
  have h16 := h.a16
  have h19 := h.a19
  have loop : ∀ (n k : Nat) (y : Int) (x : Option Value), y = (k : Int) → k + n = 200 → tkF op b (fF (fun k => !gv (adr op b k)) n k) (gv, fu, p) = tk op b (gv, fu, p) → V G K 4 (QE G K (fun rv ad' w' => rv = some (.int (i32 (tk op b (gv, fu, p)).2)) ∧ ad' = ad ∧ vA w0 ad w' ln m r p op ((tk op b (gv, fu, p)).1.2.1) ((tk op b (gv, fu, p)).1.1) at_ td tn) noT 0 0) 0 0 2 [some (.ref (ad (16, 0))), some (.int (i32 b)), some (.int (i32 y)), x] [] ad w := by
    intro n
    induction n with
    | zero =>
      intro k y x hy hk2 hF
      have hF : ((gv, true, p), (0 : Int)) = tk op b (gv, fu, p) := hF
      refine r_iload_n (i := 2) hk (dk_at D_Asm_take 2 rfl) rfl rfl ?_
      refine r_sipush hk (dk_at D_Asm_take 3 rfl) (by decide) ?_
      refine r_icmp_ge (t := 63) hk (dk_at D_Asm_take 4 rfl) (by decide) (by omega) (by omega) (fun c_6 => ?_) (fun c_6 => ?_)
      · refine r_aload_n (i := 0) hk (dk_at D_Asm_take 39 rfl) rfl rfl ?_
        refine r_iconst hk (dk_at D_Asm_take 40 rfl) ?_
        refine r_put (fs' := [_, _, _, _, _, _, _]) hk fl_Asm_35 ft_Asm_6 (dk_at D_Asm_take 41 rfl) ?_ (hn := rfl) (hfit := rfl) (hw := h16)
        refine r_iconst hk (dk_at D_Asm_take 42 rfl) ?_
        exact r_iret hk (dk_at D_Asm_take 43 rfl) ⟨by rw [← hF], rfl, by rw [← hF]; exact h.obj (op' := op) (fu' := true)⟩
      · exact absurd c_6 (by omega)
    | succ n ih =>
      intro k y x hy hk2 hF
      subst hy
      have hal := adr_lt (op := op) (b := b) (k := k) (by omega)
      have m35 : V G K 4 (QE G K (fun rv ad' w' => rv = some (.int (i32 (tk op b (gv, fu, p)).2)) ∧ ad' = ad ∧ vA w0 ad w' ln m r p op ((tk op b (gv, fu, p)).1.2.1) ((tk op b (gv, fu, p)).1.1) at_ td tn) noT 0 0) 0 0 35 [some (.ref (ad (16, 0))), some (.int (i32 b)), some (.int (i32 (k : Nat))), x] [.int (i32 (adr op b k : Nat))] ad w := by
        refine r_istore_n (i := 3) (ls' := [_, _, _, _]) hk (dk_at D_Asm_take 23 rfl) rfl rfl rfl rfl ?_
        refine r_aload_n (i := 0) hk (dk_at D_Asm_take 24 rfl) rfl rfl ?_
        refine r_get hk fl_Asm_21 (dk_at D_Asm_take 25 rfl) ?_ (hw := h16)
        refine r_iload_n (i := 3) hk (dk_at D_Asm_take 26 rfl) rfl rfl ?_
        refine r_zaload (ix := (adr op b k)) hk (dk_at D_Asm_take 27 rfl) ?_ (hw := h19)
        refine r_top (show bA gv (adr op b k) = .int (i32 (b2i (gv (adr op b k)))) from rfl) ?_
        refine r_if_eqB (t := 48) hk (dk_at D_Asm_take 28 rfl) (by decide) (fun c_42 => ?_) (fun c_42 => ?_)
        · have hF2 : ((fu_ gv (adr op b k) true, fu, p), ((adr op b k : Nat) : Int)) = tk op b (gv, fu, p) := by
            rw [← hF, fF_t (by show (!gv (adr op b k)) = true; rw [c_42]; rfl)]
            rfl
          refine r_aload_n (i := 0) hk (dk_at D_Asm_take 30 rfl) rfl rfl ?_
          refine r_get hk fl_Asm_21 (dk_at D_Asm_take 31 rfl) ?_ (hw := h16)
          refine r_iload_n (i := 3) hk (dk_at D_Asm_take 32 rfl) rfl rfl ?_
          refine r_iconst hk (dk_at D_Asm_take 33 rfl) ?_
          refine r_zastore (ix := (adr op b k)) hk (dk_at D_Asm_take 34 rfl) ?_ (b := true) (hw := h19)
          rw [show updV (bA gv) (adr op b k) (.int (i32 (b2i true))) = bA (fu_ gv (adr op b k) true) from updV_bA]
          refine r_iload_n (i := 3) hk (dk_at D_Asm_take 35 rfl) rfl rfl ?_
          exact r_iret hk (dk_at D_Asm_take 36 rfl) ⟨by rw [← hF2], rfl, by rw [← hF2]; exact h.gvs⟩
        · refine r_goto (t := 57) hk (dk_at D_Asm_take 29 rfl) (by decide) ?_
          refine r_iinc (i := 2) (ls' := [_, _, _, _]) hk (dk_at D_Asm_take 37 rfl) rfl rfl rfl rfl ?_
          refine r_goto (t := 2) hk (dk_at D_Asm_take 38 rfl) (by decide) ?_
          refine ih (k + 1) _ _ (by omega) (by omega) ?_
          rw [← hF, fF_f (by show (!gv (adr op b k)) = false; rw [c_42]; rfl)]
      refine r_iload_n (i := 2) hk (dk_at D_Asm_take 2 rfl) rfl rfl ?_
      refine r_sipush hk (dk_at D_Asm_take 3 rfl) (by decide) ?_
      refine r_icmp_ge (t := 63) hk (dk_at D_Asm_take 4 rfl) (by decide) (by omega) (by omega) (fun c_6 => ?_) (fun c_6 => ?_)
      · exact absurd c_6 (by omega)
      · refine r_aload_n (i := 0) hk (dk_at D_Asm_take 5 rfl) rfl rfl ?_
        refine r_get hk fl_Asm_31 (dk_at D_Asm_take 6 rfl) ?_ (hw := h16)
        refine r_if_eqB (t := 34) hk (dk_at D_Asm_take 7 rfl) (by decide) (fun c_13 => ?_) (fun c_13 => ?_)
        · refine r_iload_n (i := 2) hk (dk_at D_Asm_take 22 rfl) rfl rfl ?_
          have := m35
          rw [show adr op b k = k by rw [c_13]; rfl] at this
          exact this
        · refine r_iload_n (i := 1) hk (dk_at D_Asm_take 8 rfl) rfl rfl ?_
          refine r_iload_n (i := 2) hk (dk_at D_Asm_take 9 rfl) rfl rfl ?_
          refine r_iconst hk (dk_at D_Asm_take 10 rfl) ?_
          refine r_idiv hk (dk_at D_Asm_take 11 rfl) (by omega) (by omega) ?_
          refine r_iadd hk (dk_at D_Asm_take 12 rfl) ?_
          refine r_bipush hk (dk_at D_Asm_take 13 rfl) (by decide) ?_
          refine r_irem hk (dk_at D_Asm_take 14 rfl) (by omega) (by omega) ?_
          refine r_bipush hk (dk_at D_Asm_take 15 rfl) (by decide) ?_
          refine r_iload_n (i := 2) hk (dk_at D_Asm_take 16 rfl) rfl rfl ?_
          refine r_iconst hk (dk_at D_Asm_take 17 rfl) ?_
          refine r_irem hk (dk_at D_Asm_take 18 rfl) (by omega) (by omega) ?_
          refine r_imul hk (dk_at D_Asm_take 19 rfl) ?_
          refine r_iadd hk (dk_at D_Asm_take 20 rfl) ?_
          refine r_topi (x' := ((adr op b k : Nat) : Int)) (by rw [c_13]; show _ = (((b + k / 4) % 50 + 50 * (k % 4) : Nat) : Int); omega) ?_
          refine r_goto (t := 35) hk (dk_at D_Asm_take 21 rfl) (by decide) ?_
          exact m35
  refine r_iconst hk (dk_at D_Asm_take 0 rfl) ?_
  refine r_istore_n (i := 2) (ls' := [_, _, _, _]) hk (dk_at D_Asm_take 1 rfl) rfl rfl rfl rfl ?_
  exact loop 200 0 _ _ rfl rfl rfl
theorem c_Asm_settle (G : Gt) {w0 w : Wt} {ad : Ix → Nat} {ln : Nat → Ln} {m : Nat} {r : Nat → Bool} {p : Nat → Int} {op fu : Bool} {gv : Nat → Bool} {at_ td tn : Nat → Int} {z : Int} {b : Nat} (h : vA w0 ad w ln m r p op fu gv at_ td tn) (hz : isP z = true ∧ z ≠ -1) (hb : b < 1000000) (hp : okP p) : Mt G y_Asm_settle w_Asm_settle 1 0 0 [.ref (ad (16, 0)), .int (i32 z), .int (i32 b)] ad w (fun rv ad' w' => rv = some (.int (i32 (stl op z b (gv, fu, p)).2)) ∧ ad' = ad ∧ vA w0 ad w' ln m r ((stl op z b (gv, fu, p)).1.2.2) op ((stl op z b (gv, fu, p)).1.2.1) ((stl op z b (gv, fu, p)).1.1) at_ td tn) noT := by
  have hzr := isP_t.mp hz.1
  have hz1 := hz.2
  refine Mt.to [some (.ref (ad (16, 0))), some (.int (i32 z)), some (.int (i32 b)), none] (fun K hk hR hin => ?_)
  have h16 := h.a16
  have h20 := h.a20
  refine r_iload_n (i := 1) hk (dk_at D_Asm_settle 0 rfl) rfl rfl ?_
  refine r_sipush hk (dk_at D_Asm_settle 1 rfl) (by decide) ?_
  refine r_icmp_ge (t := 9) hk (dk_at D_Asm_settle 2 rfl) (by decide) (by omega) (by omega) (fun c_4 => ?_) (fun c_4 => ?_)
  · obtain ⟨k, hk2⟩ : ∃ k : Nat, z - 1000 = (k : Int) := ⟨(z - 1000).toNat, by omega⟩
    have hkn : (z - 1000).toNat = k := by omega
    have hpk := hp k (by omega)
    have e : stl op z b (gv, fu, p) = (if p k = -1 then (((tk op b (gv, fu, p)).1.1, (tk op b (gv, fu, p)).1.2.1, fu_ p k (tk op b (gv, fu, p)).2), (tk op b (gv, fu, p)).2) else ((gv, fu, p), p k)) := by
      unfold stl
      rw [if_neg (by omega), hkn]
    refine r_iload_n (i := 1) hk (dk_at D_Asm_settle 5 rfl) rfl rfl ?_
    refine r_sipush hk (dk_at D_Asm_settle 6 rfl) (by decide) ?_
    refine r_isub hk (dk_at D_Asm_settle 7 rfl) ?_
    refine r_istore_n (i := 3) (ls' := [_, _, _, _]) hk (dk_at D_Asm_settle 8 rfl) rfl rfl rfl rfl ?_
    refine r_aload_n (i := 0) hk (dk_at D_Asm_settle 9 rfl) rfl rfl ?_
    refine r_get hk fl_Asm_24 (dk_at D_Asm_settle 10 rfl) ?_ (hw := h16)
    refine r_iload_n (i := 3) hk (dk_at D_Asm_settle 11 rfl) rfl rfl ?_
    refine r_iaload (ix := k) hk (dk_at D_Asm_settle 12 rfl) ?_ (hw := h20)
    refine r_top (show iA p k = .int (i32 (p k)) from rfl) ?_
    refine r_iconst hk (dk_at D_Asm_settle 13 rfl) ?_
    refine r_icmp_ne (t := 36) hk (dk_at D_Asm_settle 14 rfl) (by decide) (by omega) (by omega) (fun c_22 => ?_) (fun c_22 => ?_)
    · rw [if_neg c_22] at e
      refine r_aload_n (i := 0) hk (dk_at D_Asm_settle 22 rfl) rfl rfl ?_
      refine r_get hk fl_Asm_24 (dk_at D_Asm_settle 23 rfl) ?_ (hw := h16)
      refine r_iload_n (i := 3) hk (dk_at D_Asm_settle 24 rfl) rfl rfl ?_
      refine r_iaload (ix := k) hk (dk_at D_Asm_settle 25 rfl) ?_ (hw := h20)
      exact r_iret hk (dk_at D_Asm_settle 26 rfl) ⟨by rw [e], rfl, by rw [e]; exact h⟩
    · rw [if_pos (by omega)] at e
      refine r_aload_n (i := 0) hk (dk_at D_Asm_settle 15 rfl) rfl rfl ?_
      refine r_get hk fl_Asm_24 (dk_at D_Asm_settle 16 rfl) ?_ (hw := h16)
      refine r_iload_n (i := 3) hk (dk_at D_Asm_settle 17 rfl) rfl rfl ?_
      refine r_aload_n (i := 0) hk (dk_at D_Asm_settle 18 rfl) rfl rfl ?_
      refine r_iload_n (i := 2) hk (dk_at D_Asm_settle 19 rfl) rfl rfl ?_
      refine r_callVq hk hR m_Asm_take s_Asm_take ml_Asm_59 (dk_at D_Asm_settle 20 rfl) (c_Asm_take G h hb) (fun w h => ?_) (i := (16, 0)) (hw := h16)
      have h16 := h.a16
      have h20 := h.a20
      refine r_iastore (ix := k) hk (dk_at D_Asm_settle 21 rfl) ?_ (hw := h20)
      rw [show updV (iA p) k (.int (i32 (tk op b (gv, fu, p)).2)) = iA (fu_ p k (tk op b (gv, fu, p)).2) from updV_iA]
      refine r_gp (fun w => vA w0 ad w ln m r (fu_ p k (tk op b (gv, fu, p)).2) op ((tk op b (gv, fu, p)).1.2.1) ((tk op b (gv, fu, p)).1.1) at_ td tn) h.pls (fun w h => ?_)
      have h16 := h.a16
      have h20 := h.a20
      refine r_aload_n (i := 0) hk (dk_at D_Asm_settle 22 rfl) rfl rfl ?_
      refine r_get hk fl_Asm_24 (dk_at D_Asm_settle 23 rfl) ?_ (hw := h16)
      refine r_iload_n (i := 3) hk (dk_at D_Asm_settle 24 rfl) rfl rfl ?_
      refine r_iaload (ix := k) hk (dk_at D_Asm_settle 25 rfl) ?_ (hw := h20)
      exact r_iret hk (dk_at D_Asm_settle 26 rfl) ⟨by rw [e]; show some (Value.int (i32 (fu_ p k (tk op b (gv, fu, p)).2 k))) = _; rw [fu_s], rfl, by rw [e]; exact h⟩
  · have e : stl op z b (gv, fu, p) = ((gv, fu, p), z) := if_pos (by omega)
    refine r_iload_n (i := 1) hk (dk_at D_Asm_settle 3 rfl) rfl rfl ?_
    exact r_iret hk (dk_at D_Asm_settle 4 rfl) ⟨by rw [e], rfl, by rw [e]; exact h⟩
theorem c_Asm_mark (G : Gt) {w0 w : Wt} {ad : Ix → Nat} {ln : Nat → Ln} {m : Nat} {r : Nat → Bool} {p : Nat → Int} {op fu : Bool} {gv : Nat → Bool} {at_ td tn : Nat → Int} {z : Int} (h : vA w0 ad w ln m r p op fu gv at_ td tn) (hz : -1 ≤ z ∧ z < 1020) : Mt G y_Asm_mark w_Asm_mark 0 0 0 [.ref (ad (16, 0)), .int (i32 z)] ad w (fun rv ad' w' => rv = none ∧ ad' = ad ∧ vA w0 ad w' ln m r p op fu (mk1 gv z) at_ td tn) noT := by
  refine Mt.to [some (.ref (ad (16, 0))), some (.int (i32 z))] (fun K hk hR hin => ?_)
  have h16 := h.a16
  have h19 := h.a19
  refine r_iload_n (i := 1) hk (dk_at D_Asm_mark 0 rfl) rfl rfl ?_
  refine r_if_lt (t := 18) hk (dk_at D_Asm_mark 1 rfl) (by decide) (by omega) (fun c_1 => ?_) (fun c_1 => ?_)
  · have e : mk1 gv z = gv := if_neg (by omega)
    rw [e]
    exact r_vret hk (dk_at D_Asm_mark 10 rfl) ⟨rfl, rfl, h⟩
  · refine r_iload_n (i := 1) hk (dk_at D_Asm_mark 2 rfl) rfl rfl ?_
    refine r_sipush hk (dk_at D_Asm_mark 3 rfl) (by decide) ?_
    refine r_icmp_ge (t := 18) hk (dk_at D_Asm_mark 4 rfl) (by decide) (by omega) (by omega) (fun c_8 => ?_) (fun c_8 => ?_)
    · have e : mk1 gv z = gv := if_neg (by omega)
      rw [e]
      exact r_vret hk (dk_at D_Asm_mark 10 rfl) ⟨rfl, rfl, h⟩
    · obtain ⟨a, rfl⟩ : ∃ n : Nat, z = (n : Int) := ⟨z.toNat, by omega⟩
      have e : mk1 gv (a : Int) = fu_ gv a true := if_pos (by omega)
      rw [e]
      refine r_aload_n (i := 0) hk (dk_at D_Asm_mark 5 rfl) rfl rfl ?_
      refine r_get hk fl_Asm_21 (dk_at D_Asm_mark 6 rfl) ?_ (hw := h16)
      refine r_iload_n (i := 1) hk (dk_at D_Asm_mark 7 rfl) rfl rfl ?_
      refine r_iconst hk (dk_at D_Asm_mark 8 rfl) ?_
      refine r_zastore (ix := a) hk (dk_at D_Asm_mark 9 rfl) ?_ (b := true) (hw := h19)
      rw [show updV (bA gv) a (.int (i32 (b2i true))) = bA (fu_ gv a true) from updV_bA]
      exact r_vret hk (dk_at D_Asm_mark 10 rfl) ⟨rfl, rfl, h.gvs⟩
theorem c_Asm_begin (G : Gt) {w0 w : Wt} {ad : Ix → Nat} {ln : Nat → Ln} {m : Nat} {r : Nat → Bool} {p : Nat → Int} {op fu : Bool} {gv : Nat → Bool} {at_ td tn : Nat → Int} {be : Bool} (h : vA w0 ad w ln m r p op fu gv at_ td tn) (hl : ∀ k, k < m → okL (ln k)) (hm : m ≤ 40) : Mt G y_Asm_begin w_Asm_begin 2 0 0 [.ref (ad (16, 0)), .int (i32 (b2i be))] ad w (fun rv ad' w' => rv = none ∧ ad' = ad ∧ vA w0 ad w' ln m r noP be false (bgn r ln m) at_ td tn) noT := by
  refine Mt.to [some (.ref (ad (16, 0))), some (.int (i32 (b2i be))), none] (fun K hk hR hin => ?_)
  have lp2 : ∀ n : Nat, n ≤ m → ∀ (w : Wt) (y : Int), y = (n : Int) → vA w0 ad w ln m r noP be false (bgn r ln n) at_ td tn → V G K 3 (QE G K (fun rv ad' w' => rv = none ∧ ad' = ad ∧ vA w0 ad w' ln m r noP be false (bgn r ln m) at_ td tn) noT 0 0) 0 0 43 [some (.ref (ad (16, 0))), some (.int (i32 (b2i be))), some (.int (i32 y))] [] ad w := by
    refine nup m (fun n hn ih w y hy h => ?_)
    subst hy
    have h16 := h.a16
    refine r_iload_n (i := 2) hk (dk_at D_Asm_begin 25 rfl) rfl rfl ?_
    refine r_aload_n (i := 0) hk (dk_at D_Asm_begin 26 rfl) rfl rfl ?_
    refine r_get hk fl_Asm_38 (dk_at D_Asm_begin 27 rfl) ?_ (hw := h16)
    refine r_icmp_ge (t := 108) hk (dk_at D_Asm_begin 28 rfl) (by decide) (by omega) (by omega) (fun c_48 => ?_) (fun c_48 => ?_)
    · obtain rfl : n = m := by omega
      exact r_vret hk (dk_at D_Asm_begin 58 rfl) ⟨rfl, rfl, h⟩
    · have hnm : n < m := by omega
      have hkl := (hl n hnm)
      obtain ⟨k1, k2, k3, k4, k5⟩ := hkl.k
      obtain ⟨f, h17, hf⟩ := h.a17
      have h27 := h.a27 hnm
      refine r_aload_n (i := 0) hk (dk_at D_Asm_begin 29 rfl) rfl rfl ?_
      refine r_aload_n (i := 0) hk (dk_at D_Asm_begin 30 rfl) rfl rfl ?_
      refine r_get hk fl_Asm_11 (dk_at D_Asm_begin 31 rfl) ?_ (hw := h16)
      refine r_iload_n (i := 2) hk (dk_at D_Asm_begin 32 rfl) rfl rfl ?_
      refine r_aaload (ix := n) hk (dk_at D_Asm_begin 33 rfl) ?_ (hw := h17)
      refine r_top (hf n hnm) ?_
      refine r_getN hk fl_Asm_42 (dk_at D_Asm_begin 34 rfl) ?_ (hw := h27)
      refine r_callVqv hk hR m_Asm_mark s_Asm_mark ml_Asm_45 (dk_at D_Asm_begin 35 rfl) (c_Asm_mark G h (isP_r hkl.1)) (fun w h => ?_) (i := (16, 0)) (hw := h16)
      clear h16 h27 h17
      have h16 := h.a16
      obtain ⟨f, h17, hf⟩ := h.a17
      have h27 := h.a27 hnm
      refine r_aload_n (i := 0) hk (dk_at D_Asm_begin 36 rfl) rfl rfl ?_
      refine r_get hk fl_Asm_11 (dk_at D_Asm_begin 37 rfl) ?_ (hw := h16)
      refine r_iload_n (i := 2) hk (dk_at D_Asm_begin 38 rfl) rfl rfl ?_
      refine r_aaload (ix := n) hk (dk_at D_Asm_begin 39 rfl) ?_ (hw := h17)
      refine r_top (hf n hnm) ?_
      have m89 : ∀ w : Wt, vA w0 ad w ln m r noP be false (if kd (ln n) = 11 then mk1 (bgn r ln n) (ln n).1 else mk1 (mk1 (bgn r ln n) (ln n).1) (ln n).2.2.1) at_ td tn → V G K 3 (QE G K (fun rv ad' w' => rv = none ∧ ad' = ad ∧ vA w0 ad w' ln m r noP be false (bgn r ln m) at_ td tn) noT 0 0) 0 0 89 [some (.ref (ad (16, 0))), some (.int (i32 (b2i be))), some (.int (i32 (n : Nat)))] [] ad w := by
        intro w h
        have h16 := h.a16
        obtain ⟨f, h17, hf⟩ := h.a17
        have h27 := h.a27 hnm
        refine r_aload_n (i := 0) hk (dk_at D_Asm_begin 49 rfl) rfl rfl ?_
        refine r_aload_n (i := 0) hk (dk_at D_Asm_begin 50 rfl) rfl rfl ?_
        refine r_get hk fl_Asm_11 (dk_at D_Asm_begin 51 rfl) ?_ (hw := h16)
        refine r_iload_n (i := 2) hk (dk_at D_Asm_begin 52 rfl) rfl rfl ?_
        refine r_aaload (ix := n) hk (dk_at D_Asm_begin 53 rfl) ?_ (hw := h17)
        refine r_top (hf n hnm) ?_
        refine r_getN hk fl_Asm_56 (dk_at D_Asm_begin 54 rfl) ?_ (hw := h27)
        refine r_callVqv hk hR m_Asm_mark s_Asm_mark ml_Asm_45 (dk_at D_Asm_begin 55 rfl) (c_Asm_mark G h (isP_r hkl.2.1)) (fun w h => ?_) (i := (16, 0)) (hw := h16)
        refine r_iinc (i := 2) (ls' := [_, _, _]) hk (dk_at D_Asm_begin 56 rfl) rfl rfl rfl rfl ?_
        refine r_goto (t := 43) hk (dk_at D_Asm_begin 57 rfl) (by decide) ?_
        exact ih hnm w _ (by omega) h
      refine r_callV hk hR m_Line_shifts s_Line_shifts ml_Asm_49 (dk_at D_Asm_begin 40 rfl) (c_Line_shifts G h27 hkl) ?_ (i := (27, n)) (hw := h27)
      refine r_if_neB (t := 89) hk (dk_at D_Asm_begin 41 rfl) (by decide) (fun c_73 => ?_) (fun c_73 => ?_)
      · refine m89 w ?_
        rw [if_pos (of_decide_eq_true c_73)]
        exact h
      · refine r_aload_n (i := 0) hk (dk_at D_Asm_begin 42 rfl) rfl rfl ?_
        refine r_aload_n (i := 0) hk (dk_at D_Asm_begin 43 rfl) rfl rfl ?_
        refine r_get hk fl_Asm_11 (dk_at D_Asm_begin 44 rfl) ?_ (hw := h16)
        refine r_iload_n (i := 2) hk (dk_at D_Asm_begin 45 rfl) rfl rfl ?_
        refine r_aaload (ix := n) hk (dk_at D_Asm_begin 46 rfl) ?_ (hw := h17)
        refine r_top (hf n hnm) ?_
        refine r_getN hk fl_Asm_53 (dk_at D_Asm_begin 47 rfl) ?_ (hw := h27)
        refine r_callVqv hk hR m_Asm_mark s_Asm_mark ml_Asm_45 (dk_at D_Asm_begin 48 rfl) (c_Asm_mark G h (isP_r (k5 (of_decide_eq_false c_73)))) (fun w h => ?_) (i := (16, 0)) (hw := h16)
        refine m89 w ?_
        rw [if_neg (of_decide_eq_false c_73)]
        exact h
  have lp1 : ∀ n : Nat, n ≤ 200 → ∀ (w : Wt) (y : Int) (f : Nat → Value), y = (n : Int) → vA w0 ad w ln m r noP be false gv at_ td tn → (∀ j, j < n → f j = bA r j) → V G K 3 (QE G K (fun rv ad' w' => rv = none ∧ ad' = ad ∧ vA w0 ad w' ln m r noP be false (bgn r ln m) at_ td tn) noT 0 0) 0 0 16 [some (.ref (ad (16, 0))), some (.int (i32 (b2i be))), some (.int (i32 y))] [] ad (up w (19, 0) (some (.inr (2, 200, f)))) := by
    refine nup 200 (fun n hn ih w y f hy h hf => ?_)
    subst hy
    have h16 := h.a16
    have h18 := h.a18
    refine r_iload_n (i := 2) hk (dk_at D_Asm_begin 10 rfl) rfl rfl ?_
    refine r_sipush hk (dk_at D_Asm_begin 11 rfl) (by decide) ?_
    refine r_icmp_ge (t := 41) hk (dk_at D_Asm_begin 12 rfl) (by decide) (by omega) (by omega) (fun c_20 => ?_) (fun c_20 => ?_)
    · obtain rfl : n = 200 := by omega
      refine r_arr hf ?_
      refine r_gp (fun w => vA w0 ad w ln m r noP be false r at_ td tn) h.gvs (fun w h => ?_)
      refine r_iconst hk (dk_at D_Asm_begin 23 rfl) ?_
      refine r_istore_n (i := 2) (ls' := [_, _, _]) hk (dk_at D_Asm_begin 24 rfl) rfl rfl rfl rfl ?_
      exact lp2 0 (Nat.zero_le _) w _ rfl h
    · refine r_aload_n (i := 0) hk (dk_at D_Asm_begin 13 rfl) rfl rfl ?_
      refine r_get hk fl_Asm_21 (dk_at D_Asm_begin 14 rfl) ?_ (hw := (up_n (by intro e; cases e)).trans h16)
      refine r_iload_n (i := 2) hk (dk_at D_Asm_begin 15 rfl) rfl rfl ?_
      refine r_aload_n (i := 0) hk (dk_at D_Asm_begin 16 rfl) rfl rfl ?_
      refine r_get hk fl_Asm_17 (dk_at D_Asm_begin 17 rfl) ?_ (hw := (up_n (by intro e; cases e)).trans h16)
      refine r_iload_n (i := 2) hk (dk_at D_Asm_begin 18 rfl) rfl rfl ?_
      refine r_zaload (ix := n) hk (dk_at D_Asm_begin 19 rfl) ?_ (hw := (up_n (by intro e; cases e)).trans h18)
      refine r_top (show bA r n = .int (i32 (b2i (r n))) from rfl) ?_
      refine r_zastoreU (ix := n) hk (dk_at D_Asm_begin 20 rfl) ?_
      refine r_iinc (i := 2) (ls' := [_, _, _]) hk (dk_at D_Asm_begin 21 rfl) rfl rfl rfl rfl ?_
      refine r_goto (t := 16) hk (dk_at D_Asm_begin 22 rfl) (by decide) ?_
      exact ih (by omega) w _ _ (by omega) h (ext_s hf rfl)
  have h16 := h.a16
  refine r_aload_n (i := 0) hk (dk_at D_Asm_begin 0 rfl) rfl rfl ?_
  refine r_iload_n (i := 1) hk (dk_at D_Asm_begin 1 rfl) rfl rfl ?_
  refine r_put (fs' := [_, _, _, _, _, _, _]) hk fl_Asm_31 ft_Asm_5 (dk_at D_Asm_begin 2 rfl) ?_ (hn := b2i_n _) (hfit := b2i_fit _) (hw := h16)
  refine r_aload_n (i := 0) hk (dk_at D_Asm_begin 3 rfl) rfl rfl ?_
  refine r_iconst hk (dk_at D_Asm_begin 4 rfl) ?_
  refine r_put (fs' := [_, _, _, _, _, _, _]) hk fl_Asm_35 ft_Asm_6 (dk_at D_Asm_begin 5 rfl) ?_ (hn := rfl) (hfit := rfl)
  refine r_we up_up ?_
  refine r_gp (fun w => vA w0 ad w ln m r p be false gv at_ td tn) (h.obj (op' := be) (fu' := false)) (fun w h => ?_)
  refine r_aload_n (i := 0) hk (dk_at D_Asm_begin 6 rfl) rfl rfl ?_
  refine r_callVv hk hR m_Asm_forget s_Asm_forget ml_Asm_28 (dk_at D_Asm_begin 7 rfl) (c_Asm_forget G h.a16 h.a20) ?_ (i := (16, 0)) (hw := h.a16)
  refine r_gp (fun w => vA w0 ad w ln m r noP be false gv at_ td tn) h.pls (fun w h => ?_)
  refine r_iconst hk (dk_at D_Asm_begin 8 rfl) ?_
  refine r_istore_n (i := 2) (ls' := [_, _, _]) hk (dk_at D_Asm_begin 9 rfl) rfl rfl rfl rfl ?_
  refine r_in h.a19 ?_
  exact lp1 0 (Nat.zero_le _) w _ _ rfl h ext_0
theorem c_Asm_locate (G : Gt) {w0 w : Wt} {ad : Ix → Nat} {ln : Nat → Ln} {m : Nat} {r : Nat → Bool} {p : Nat → Int} {op fu : Bool} {gv : Nat → Bool} {at_ td tn : Nat → Int} {k : Nat} (h : vA w0 ad w ln m r p op fu gv at_ td tn) (hkm : k < m) (hm : m ≤ 40) (hl : ∀ k, k < m → okL (ln k)) (hp : okP p) : Mt G y_Asm_locate w_Asm_locate 2 0 0 [.ref (ad (16, 0)), .int (i32 k)] ad w (fun rv ad' w' => rv = none ∧ ad' = ad ∧ vA w0 ad w' ln m r ((lcR op ln k tn (gv, fu, p)).1.2.2) op ((lcR op ln k tn (gv, fu, p)).1.2.1) ((lcR op ln k tn (gv, fu, p)).1.1) (fu_ at_ k (lcR op ln k tn (gv, fu, p)).2) td tn) noT := by
  have hkl := hl k hkm
  obtain ⟨k1, k2, k3, k4, k5⟩ := hkl.k
  have hlr := isP_r hkl.1
  refine Mt.to [some (.ref (ad (16, 0))), some (.int (i32 k)), none, none] (fun K hk hR hin => ?_)
  have h16 := h.a16
  obtain ⟨f, h17, hf⟩ := h.a17
  have h27 := h.a27 hkm
  have fin : ∀ (w : Wt) (x : Option Value) (R : AS × Int), (lcR op ln k tn (gv, fu, p)) = R → vA w0 ad w ln m r R.1.2.2 op R.1.2.1 R.1.1 at_ td tn → V G K 4 (QE G K (fun rv ad' w' => rv = none ∧ ad' = ad ∧ vA w0 ad w' ln m r ((lcR op ln k tn (gv, fu, p)).1.2.2) op ((lcR op ln k tn (gv, fu, p)).1.2.1) ((lcR op ln k tn (gv, fu, p)).1.1) (fu_ at_ k (lcR op ln k tn (gv, fu, p)).2) td tn) noT 0 0) 0 0 76 [some (.ref (ad (16, 0))), some (.int (i32 (k : Nat))), some (.ref (ad (27, k))), x] [.int (i32 R.2), .ref (ad (27, k))] ad w := by
    intro w x R hRR h
    have h27 := h.a27 hkm
    subst hRR
    refine r_putN (fs' := [_, _, _, _, _, _, _]) hk fl_Asm_70 ft_Line_4 (dk_at D_Asm_locate 44 rfl) ?_ (hw := h27)
    exact r_vret hk (dk_at D_Asm_locate 45 rfl) ⟨rfl, rfl, by have h9 := h.lin (k := k) (x := (lcR op ln k tn (gv, fu, p)).2) (y := td k) (z := tn k); rw [fu_id, fu_id] at h9; exact h9⟩
  have m31 : ∀ b : Bool, b = decide (0 < k ∧ (ln (k - 1)).2.2.2 = -1) → V G K 4 (QE G K (fun rv ad' w' => rv = none ∧ ad' = ad ∧ vA w0 ad w' ln m r ((lcR op ln k tn (gv, fu, p)).1.2.2) op ((lcR op ln k tn (gv, fu, p)).1.2.1) ((lcR op ln k tn (gv, fu, p)).1.1) (fu_ at_ k (lcR op ln k tn (gv, fu, p)).2) td tn) noT 0 0) 0 0 31 [some (.ref (ad (16, 0))), some (.int (i32 (k : Nat))), some (.ref (ad (27, k))), none] [.int (i32 (b2i b))] ad w := by
    intro b hb
    refine r_istore_n (i := 3) (ls' := [_, _, _, _]) hk (dk_at D_Asm_locate 19 rfl) rfl rfl rfl rfl ?_
    refine r_aload_n (i := 2) hk (dk_at D_Asm_locate 20 rfl) rfl rfl ?_
    refine r_aload_n (i := 2) hk (dk_at D_Asm_locate 21 rfl) rfl rfl ?_
    refine r_getN hk fl_Asm_42 (dk_at D_Asm_locate 22 rfl) ?_ (hw := h27)
    refine r_iconst hk (dk_at D_Asm_locate 23 rfl) ?_
    refine r_icmp_eq (t := 53) hk (dk_at D_Asm_locate 24 rfl) (by decide) (by omega) (by omega) (fun c_38 => ?_) (fun c_38 => ?_)
    · refine r_iload_n (i := 3) hk (dk_at D_Asm_locate 31 rfl) rfl rfl ?_
      refine r_if_eqB (t := 71) hk (dk_at D_Asm_locate 32 rfl) (by decide) (fun c_54 => ?_) (fun c_54 => ?_)
      · have e : (lcR op ln k tn (gv, fu, p)) = tk op 0 (gv, fu, p) := (if_neg (by omega)).trans (if_neg (of_decide_eq_false (hb.symm.trans c_54)))
        refine r_aload_n (i := 0) hk (dk_at D_Asm_locate 41 rfl) rfl rfl ?_
        refine r_iconst hk (dk_at D_Asm_locate 42 rfl) ?_
        refine r_callVq hk hR m_Asm_take s_Asm_take ml_Asm_59 (dk_at D_Asm_locate 43 rfl) (c_Asm_take G (b := 0) h (by decide)) (fun w h => ?_) (i := (16, 0)) (hw := h16)
        exact fin w _ _ e (by rw [tk_p]; exact h)
      · obtain ⟨hk0, hnx⟩ := of_decide_eq_true (hb.symm.trans c_54)
        have e : (lcR op ln k tn (gv, fu, p)) = ((gv, fu, p), tn (k - 1)) := (if_neg (by omega)).trans (if_pos ⟨hk0, hnx⟩)
        have h27b := h.a27 (k := k - 1) (by omega)
        refine r_aload_n (i := 0) hk (dk_at D_Asm_locate 33 rfl) rfl rfl ?_
        refine r_get hk fl_Asm_11 (dk_at D_Asm_locate 34 rfl) ?_ (hw := h16)
        refine r_iload_n (i := 1) hk (dk_at D_Asm_locate 35 rfl) rfl rfl ?_
        refine r_iconst hk (dk_at D_Asm_locate 36 rfl) ?_
        refine r_isub hk (dk_at D_Asm_locate 37 rfl) ?_
        refine r_aaload (ix := (k - 1)) hk (dk_at D_Asm_locate 38 rfl) ?_ (hw := h17)
        refine r_top (hf (k - 1) (by omega)) ?_
        refine r_getN hk fl_Asm_67 (dk_at D_Asm_locate 39 rfl) ?_ (hw := h27b)
        refine r_goto (t := 76) hk (dk_at D_Asm_locate 40 rfl) (by decide) ?_
        exact fin w _ _ e h
    · have e : (lcR op ln k tn (gv, fu, p)) = stl op (ln k).1 0 (gv, fu, p) := if_pos c_38
      refine r_aload_n (i := 0) hk (dk_at D_Asm_locate 25 rfl) rfl rfl ?_
      refine r_aload_n (i := 2) hk (dk_at D_Asm_locate 26 rfl) rfl rfl ?_
      refine r_getN hk fl_Asm_42 (dk_at D_Asm_locate 27 rfl) ?_ (hw := h27)
      refine r_iconst hk (dk_at D_Asm_locate 28 rfl) ?_
      refine r_callVq hk hR m_Asm_settle s_Asm_settle ml_Asm_63 (dk_at D_Asm_locate 29 rfl) (c_Asm_settle G (b := 0) h ⟨hkl.1, c_38⟩ (by decide) hp) (fun w h => ?_) (i := (16, 0)) (hw := h16)
      refine r_goto (t := 76) hk (dk_at D_Asm_locate 30 rfl) (by decide) ?_
      exact fin w _ _ e h
  refine r_aload_n (i := 0) hk (dk_at D_Asm_locate 0 rfl) rfl rfl ?_
  refine r_get hk fl_Asm_11 (dk_at D_Asm_locate 1 rfl) ?_ (hw := h16)
  refine r_iload_n (i := 1) hk (dk_at D_Asm_locate 2 rfl) rfl rfl ?_
  refine r_aaload (ix := k) hk (dk_at D_Asm_locate 3 rfl) ?_ (hw := h17)
  refine r_top (hf k hkm) ?_
  refine r_astore_n (i := 2) (ls' := [_, _, _, _]) hk (dk_at D_Asm_locate 4 rfl) rfl rfl rfl rfl ?_
  refine r_iload_n (i := 1) hk (dk_at D_Asm_locate 5 rfl) rfl rfl ?_
  refine r_if_le (t := 30) hk (dk_at D_Asm_locate 6 rfl) (by decide) (by omega) (fun c_8 => ?_) (fun c_8 => ?_)
  · refine r_iconst hk (dk_at D_Asm_locate 18 rfl) ?_
    exact m31 false (decide_eq_false (by omega)).symm
  · have h27b := h.a27 (k := k - 1) (by omega)
    have hnr := isP_r (hl (k - 1) (by omega)).2.1
    refine r_aload_n (i := 0) hk (dk_at D_Asm_locate 7 rfl) rfl rfl ?_
    refine r_get hk fl_Asm_11 (dk_at D_Asm_locate 8 rfl) ?_ (hw := h16)
    refine r_iload_n (i := 1) hk (dk_at D_Asm_locate 9 rfl) rfl rfl ?_
    refine r_iconst hk (dk_at D_Asm_locate 10 rfl) ?_
    refine r_isub hk (dk_at D_Asm_locate 11 rfl) ?_
    refine r_aaload (ix := (k - 1)) hk (dk_at D_Asm_locate 12 rfl) ?_ (hw := h17)
    refine r_top (hf (k - 1) (by omega)) ?_
    refine r_getN hk fl_Asm_56 (dk_at D_Asm_locate 13 rfl) ?_ (hw := h27b)
    refine r_iconst hk (dk_at D_Asm_locate 14 rfl) ?_
    refine r_icmp_ne (t := 30) hk (dk_at D_Asm_locate 15 rfl) (by decide) (by omega) (by omega) (fun c_23 => ?_) (fun c_23 => ?_)
    · refine r_iconst hk (dk_at D_Asm_locate 18 rfl) ?_
      exact m31 false (decide_eq_false (fun z => by omega)).symm
    · refine r_iconst hk (dk_at D_Asm_locate 16 rfl) ?_
      refine r_goto (t := 31) hk (dk_at D_Asm_locate 17 rfl) (by decide) ?_
      exact m31 true (decide_eq_true ⟨by omega, by omega⟩).symm
