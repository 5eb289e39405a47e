theorem in_Mach : Cond.instantiable "DrumMachine" 13 ∈ tw := tw_mem 18 (by decide +kernel) rfl
theorem in_Drum : Cond.instantiable "DrumMachine$Drum" 2 ∈ tw := tw_mem 26 (by decide +kernel) rfl
theorem in_Acc : Cond.instantiable "DrumMachine$Accumulator" 5 ∈ tw := tw_mem 47 (by decide +kernel) rfl
theorem in_Word : Cond.instantiable "DrumMachine$Word" 2 ∈ tw := tw_mem 53 (by decide +kernel) rfl
theorem in_Asm : Cond.instantiable "DrumMachine$Assembler" 7 ∈ tw := tw_mem 94 (by decide +kernel) rfl
theorem in_Line : Cond.instantiable "DrumMachine$Line" 7 ∈ tw := tw_mem 378 (by decide +kernel) rfl
theorem in_Mod : Cond.instantiable "DrumMachineModel" 28 ∈ tw := tw_mem 678 (by decide +kernel) rfl
theorem oi_1 : Cond.instanceMethod Lib.objectInit ∈ tw := tw_mem 23 (by decide +kernel) rfl
theorem oi_2 : Cond.code Lib.objectInit ⟨#[0xb1]⟩ 1 none ∈ tw := tw_mem 24 (by decide +kernel) rfl
/-! DrumMachine: assemble, line -/
def wv (l : Ln) (td tn : Int) : Nat := (100000000 * l.2.1 + 10000 * td + tn).toNat
def wrC (ln : Nat → Ln) (x : SQ) : Nat → (Nat → Nat → Nat) → Nat → Nat → Nat
  | 0, c => c
  | k + 1, c => fu_ (wrC ln x k c) (x.2.1 k).toNat (cdv (wv (ln k) (x.2.2.1 k) (x.2.2.2 k)))
def wrG (x : SQ) : Nat → (Nat → Bool) → Nat → Bool
  | 0, g => g
  | k + 1, g => fu_ (wrG x k g) (x.2.1 k).toNat false
theorem wrC_lt {ln : Nat → Ln} {x : SQ} {c : Nat → Nat → Nat} (h : ∀ a k, c a k < 128) : ∀ n a k, wrC ln x n c a k < 128
  | 0, a, k => h a k
  | n + 1, a, k => fu_lt (wrC_lt h n) _ _ a k
theorem c_Mach_assemble (G : Gt) {w0 w : Wt} {ad : Ix → Nat} {c : Nat → Nat → Nat} {g : Nat → Bool} {t : Nat} {A : Nat} {mn : Bool} {ov : Bool} {dv : Nat} {dm : Bool} {nx : Nat} {fl : Int} {q : Nat → Nat × Bool} {qn : Nat} {o : Nat → Nat × Bool} {on : Nat} {ln : Nat → Int × Int × Int × Int} {m : Nat} {r : Nat → Bool} {p : Nat → Int} {fc : Nat} {be : Bool} (h : WW w0 ad w (c, g, t, A, mn, ov, dv, dm, nx, fl, q, qn, o, on, ln, m, r, p, fc)) (hl : ∀ k, k < m → okL (ln k)) (hm : m ≤ 40) : Mt G y_Mach_assemble w_Mach_assemble 7 1 6 [.ref (ad (0, 0)), .int (i32 (b2i be))] ad w (fun rv ad' w' => rv = some (.int (i32 ((allS be r ln m).2.1 0))) ∧ ad' = ad ∧ WW w0 ad w' (wrC ln (allS be r ln m) m c, wrG (allS be r ln m) m g, t, A, mn, ov, dv, dm, nx, fl, q, qn, o, on, ln, m, r, (allS be r ln m).1.2.2, fc) ∧ m ≠ 0 ∧ (asmOk be r ln m) = true) (fun C ad' w' => ad' = ad ∧ ((C = "java/lang/IllegalStateException" ∧ m = 0 ∧ WW w0 ad w' (c, g, t, A, mn, ov, dv, dm, nx, fl, q, qn, o, on, ln, m, r, p, fc)) ∨ (C = "java/lang/UnsupportedOperationException" ∧ m ≠ 0 ∧ (asmOk be r ln m) = false ∧ WW w0 ad w' (c, g, t, A, mn, ov, dv, dm, nx, fl, q, qn, o, on, ln, m, r, noP, fc)))) := by
  refine Mt.to [some (.ref (ad (0, 0))), some (.int (i32 (b2i be))), none, none] (fun K hk hR hin => ?_)
  have h0 := h.m0
  obtain ⟨op1, fu1, gv1, at1, td1, tn1, hS⟩ := h.as
  have hA : vA w ad w ln m r p op1 fu1 gv1 at1 td1 tn1 := ⟨eA.rf w, hS⟩
  have hW := h
  have hq := sq_ok (op := be) (ln := ln) (m := m) (s0 := s00 r ln m) noP_ok m hl
  have hq : okQ (allS be r ln m) m := hq
  have loop : m ≠ 0 → (asmOk be r ln m) = true → ∀ (fu : Bool) (gv : Nat → Bool) (at_ td tn : Nat → Int), (∀ j, j < m → at_ j = (allS be r ln m).2.1 j ∧ td j = (allS be r ln m).2.2.1 j ∧ tn j = (allS be r ln m).2.2.2 j) → ∀ k : Nat, k ≤ m → ∀ (w : Wt) (yk : Int) (x : Option Value), yk = (k : Int) → WW w0 ad w (wrC ln (allS be r ln m) k c, wrG (allS be r ln m) k g, t, A, mn, ov, dv, dm, nx, fl, q, qn, o, on, ln, m, r, (allS be r ln m).1.2.2, fc) → vS ad w ln m r ((allS be r ln m).1.2.2) be fu gv at_ td tn → V G K 4 (QE G K (fun rv ad' w' => rv = some (.int (i32 ((allS be r ln m).2.1 0))) ∧ ad' = ad ∧ WW w0 ad w' (wrC ln (allS be r ln m) m c, wrG (allS be r ln m) m g, t, A, mn, ov, dv, dm, nx, fl, q, qn, o, on, ln, m, r, (allS be r ln m).1.2.2, fc) ∧ m ≠ 0 ∧ (asmOk be r ln m) = true) (fun C ad' w' => ad' = ad ∧ ((C = "java/lang/IllegalStateException" ∧ m = 0 ∧ WW w0 ad w' (c, g, t, A, mn, ov, dv, dm, nx, fl, q, qn, o, on, ln, m, r, p, fc)) ∨ (C = "java/lang/UnsupportedOperationException" ∧ m ≠ 0 ∧ (asmOk be r ln m) = false ∧ WW w0 ad w' (c, g, t, A, mn, ov, dv, dm, nx, fl, q, qn, o, on, ln, m, r, noP, fc)))) 1 6) 0 0 39 [some (.ref (ad (0, 0))), some (.int (i32 (b2i be))), some (.int (i32 yk)), x] [] ad w := by
    intro hm0 hok fu gv at_ td tn hag
    refine nup m (fun k hkm ih w yk x hy h hS => ?_)
    subst hy
    have h0 := h.m0
    have h16 := hS.1
    obtain ⟨f, h17, hf⟩ := hS.2.1
    refine r_iload_n (i := 2) hk (dk_at D_Mach_assemble 19 rfl) rfl rfl ?_
    refine r_aload_n (i := 0) hk (dk_at D_Mach_assemble 20 rfl) rfl rfl ?_
    refine r_get hk fl_Mach_89 (dk_at D_Mach_assemble 21 rfl) ?_ (hw := h0)
    refine r_getN hk fl_Mach_266 (dk_at D_Mach_assemble 22 rfl) ?_ (hw := h16)
    refine r_icmp_ge (t := 114) hk (dk_at D_Mach_assemble 23 rfl) (by decide) (by omega) (by omega) (fun c_47 => ?_) (fun c_47 => ?_)
    · obtain rfl : k = m := by omega
      have h27 := hS.2.2.2.2.2 0 (by omega)
      refine r_aload_n (i := 0) hk (dk_at D_Mach_assemble 58 rfl) rfl rfl ?_
      refine r_get hk fl_Mach_89 (dk_at D_Mach_assemble 59 rfl) ?_ (hw := h0)
      refine r_getN hk fl_Mach_269 (dk_at D_Mach_assemble 60 rfl) ?_ (hw := h16)
      refine r_iconst hk (dk_at D_Mach_assemble 61 rfl) ?_
      refine r_aaload (ix := 0) hk (dk_at D_Mach_assemble 62 rfl) ?_ (hw := h17)
      refine r_top (hf 0 (by omega)) ?_
      refine r_getN hk fl_Mach_305 (dk_at D_Mach_assemble 63 rfl) ?_ (hw := h27)
      exact r_iret hk (dk_at D_Mach_assemble 64 rfl) ⟨by rw [(hag 0 (by omega)).1], rfl, h, hm0, hok⟩
    · have hk2 : k < m := by omega
      have h27 := hS.2.2.2.2.2 k hk2
      obtain ⟨e1, e2, e3⟩ := hag k hk2
      have r1 := hq.2.1 k hk2
      have r2 := hq.2.2.1 k hk2
      have r3 := hq.2.2.2 k hk2
      rw [← e1] at r1
      rw [← e2] at r2
      rw [← e3] at r3
      have hop := (hl k hk2).k.2.1
      obtain ⟨x14, f14, e14, e15⟩ := h.s14
      refine r_aload_n (i := 0) hk (dk_at D_Mach_assemble 24 rfl) rfl rfl ?_
      refine r_get hk fl_Mach_89 (dk_at D_Mach_assemble 25 rfl) ?_ (hw := h0)
      refine r_getN hk fl_Mach_269 (dk_at D_Mach_assemble 26 rfl) ?_ (hw := h16)
      refine r_iload_n (i := 2) hk (dk_at D_Mach_assemble 27 rfl) rfl rfl ?_
      refine r_aaload (ix := k) hk (dk_at D_Mach_assemble 28 rfl) ?_ (hw := h17)
      refine r_top (hf k hk2) ?_
      refine r_astore_n (i := 3) (ls' := [_, _, _, _]) hk (dk_at D_Mach_assemble 29 rfl) rfl rfl rfl rfl ?_
      refine r_aload_n (i := 0) hk (dk_at D_Mach_assemble 30 rfl) rfl rfl ?_
      refine r_get hk fl_Mach_83 (dk_at D_Mach_assemble 31 rfl) ?_ (hw := h0)
      refine r_ldc2 hk kl_Mach_292 (dk_at D_Mach_assemble 32 rfl) ?_
      refine r_aload_n (i := 3) hk (dk_at D_Mach_assemble 33 rfl) rfl rfl ?_
      refine r_getN hk fl_Mach_294 (dk_at D_Mach_assemble 34 rfl) ?_ (hw := h27)
      refine r_i2l hk (dk_at D_Mach_assemble 35 rfl) (by omega) ?_
      refine r_lmul hk (dk_at D_Mach_assemble 36 rfl) ?_
      refine r_ldc2 hk kl_Mach_297 (dk_at D_Mach_assemble 37 rfl) ?_
      refine r_aload_n (i := 3) hk (dk_at D_Mach_assemble 38 rfl) rfl rfl ?_
      refine r_getN hk fl_Mach_299 (dk_at D_Mach_assemble 39 rfl) ?_ (hw := h27)
      refine r_i2l hk (dk_at D_Mach_assemble 40 rfl) (by omega) ?_
      refine r_lmul hk (dk_at D_Mach_assemble 41 rfl) ?_
      refine r_ladd hk (dk_at D_Mach_assemble 42 rfl) ?_
      refine r_aload_n (i := 3) hk (dk_at D_Mach_assemble 43 rfl) rfl rfl ?_
      refine r_getN hk fl_Mach_302 (dk_at D_Mach_assemble 44 rfl) ?_ (hw := h27)
      refine r_i2l hk (dk_at D_Mach_assemble 45 rfl) (by omega) ?_
      refine r_ladd hk (dk_at D_Mach_assemble 46 rfl) ?_
      refine r_topl (x' := ((wv (ln k) (td k) (tn k) : Nat) : Int)) (by unfold wv; omega) ?_
      refine r_iconst hk (dk_at D_Mach_assemble 47 rfl) ?_
      refine r_callVv hk hR m_Word_set s_Word_set ml_Mach_255 (dk_at D_Mach_assemble 48 rfl) (c_Word_set G (v := wv (ln k) (td k) (tn k)) (sg := false) e14 e15 (by unfold wv; omega)) ?_ (i := (14, 0)) (hw := e14)
      refine r_gp (fun w => (WW w0 ad w (wrC ln (allS be r ln m) k c, wrG (allS be r ln m) k g, t, A, mn, ov, dv, dm, nx, fl, q, qn, o, on, ln, m, r, (allS be r ln m).1.2.2, fc) ∧ tW ad w (14, 0) (15, 0) (wv (ln k) (td k) (tn k)) false) ∧ vS ad w ln m r ((allS be r ln m).1.2.2) be fu gv at_ td tn) ⟨⟨h.read, up_s, (up_n (by intro e; cases e)).trans up_s⟩, hS.fr (fun i hi => (eqOn.up rfl i hi).trans (eqOn.up rfl i hi)) (fun i hi => (eqOn.up rfl i hi).trans (eqOn.up rfl i hi))⟩ (fun w h => ?_)
      obtain ⟨⟨h, h14⟩, hS⟩ := h
      have h0 := h.m0
      have h27 := hS.2.2.2.2.2 k hk2
      obtain ⟨a, ha⟩ : ∃ a : Nat, at_ k = (a : Int) := ⟨(at_ k).toNat, by omega⟩
      have ha2 : a < 200 := by omega
      refine r_aload_n (i := 0) hk (dk_at D_Mach_assemble 49 rfl) rfl rfl ?_
      refine r_get hk fl_Mach_62 (dk_at D_Mach_assemble 50 rfl) ?_ (hw := h0)
      refine r_aload_n (i := 3) hk (dk_at D_Mach_assemble 51 rfl) rfl rfl ?_
      refine r_getN hk fl_Mach_305 (dk_at D_Mach_assemble 52 rfl) ?_ (hw := h27)
      refine r_topi (x' := (a : Int)) ha ?_
      refine r_aload_n (i := 0) hk (dk_at D_Mach_assemble 53 rfl) rfl rfl ?_
      refine r_get hk fl_Mach_83 (dk_at D_Mach_assemble 54 rfl) ?_ (hw := h0)
      refine r_callVv hk hR m_Drum_put s_Drum_put ml_Mach_175 (dk_at D_Mach_assemble 55 rfl) (c_Drum_put G (a := a) h.d1 h.d2 (h.d3 ha2) ha2 h14.1 h14.2) ?_ (i := (1, 0)) (hw := h.d1)
      refine r_gp (fun w => WW w0 ad w (wrC ln (allS be r ln m) (k + 1) c, wrG (allS be r ln m) (k + 1) g, t, A, mn, ov, dv, dm, nx, fl, q, qn, o, on, ln, m, r, (allS be r ln m).1.2.2, fc) ∧ vS ad w ln m r ((allS be r ln m).1.2.2) be fu gv at_ td tn) ⟨by
        have h9 := h.row (a := a) (f := cdv (wv (ln k) (td k) (tn k))) (sg := false)
        have ea : ((allS be r ln m).2.1 k).toNat = a := by omega
        have e8 : wrC ln (allS be r ln m) (k + 1) c = fu_ (wrC ln (allS be r ln m) k c) a (cdv (wv (ln k) (td k) (tn k))) := by
          show fu_ _ _ (cdv (wv (ln k) ((allS be r ln m).2.2.1 k) ((allS be r ln m).2.2.2 k))) = _
          rw [ea, ← e2, ← e3]
        have e7 : wrG (allS be r ln m) (k + 1) g = fu_ (wrG (allS be r ln m) k g) a false := by
          show fu_ _ _ false = _
          rw [ea]
        rw [e8, e7]
        exact h9, hS.fr (eqOn.up rfl) (eqOn.up rfl)⟩ (fun w h => ?_)
      obtain ⟨h, hS⟩ := h
      refine r_iinc (i := 2) (ls' := [_, _, _, _]) hk (dk_at D_Mach_assemble 56 rfl) rfl rfl rfl rfl ?_
      refine r_goto (t := 39) hk (dk_at D_Mach_assemble 57 rfl) (by decide) ?_
      exact ih (by omega) w _ _ (by omega) h hS
  refine r_aload_n (i := 0) hk (dk_at D_Mach_assemble 0 rfl) rfl rfl ?_
  refine r_get hk fl_Mach_89 (dk_at D_Mach_assemble 1 rfl) ?_ (hw := h0)
  refine r_getN hk fl_Mach_266 (dk_at D_Mach_assemble 2 rfl) ?_ (hw := hS.1)
  refine r_if_ne (t := 18) hk (dk_at D_Mach_assemble 3 rfl) (by decide) (by omega) (fun c_7 => ?_) (fun c_7 => ?_)
  · have hm0 : m ≠ 0 := by omega
    refine r_aload_n (i := 0) hk (dk_at D_Mach_assemble 8 rfl) rfl rfl ?_
    refine r_get hk fl_Mach_89 (dk_at D_Mach_assemble 9 rfl) ?_ (hw := h0)
    refine r_iload_n (i := 1) hk (dk_at D_Mach_assemble 10 rfl) rfl rfl ?_
    refine r_callVq hk hR m_Asm_gives s_Asm_gives ml_Mach_285 (dk_at D_Mach_assemble 11 rfl) (c_Asm_gives G hA hl hm) (fun w h => ?_) (i := (16, 0)) (hw := hS.1)
    obtain ⟨fu, gv, at_, td, tn, h, hag⟩ := h
    refine r_if_neB (t := 37) hk (dk_at D_Mach_assemble 12 rfl) (by decide) (fun c_26 => ?_) (fun c_26 => ?_)
    · rw [if_pos c_26] at h
      refine r_iconst hk (dk_at D_Mach_assemble 17 rfl) ?_
      refine r_istore_n (i := 2) (ls' := [_, _, _, _]) hk (dk_at D_Mach_assemble 18 rfl) rfl rfl rfl rfl ?_
      exact loop hm0 c_26 fu gv at_ td tn (hag c_26) 0 (Nat.zero_le _) w _ _ rfl (hW.asm h.1 ⟨_, _, _, _, _, _, h.2⟩) h.2
    · rw [if_neg (by rw [c_26]; decide)] at h
      exact r_throw_ hk hR ex_uoe (dk_at D_Mach_assemble 13 rfl) (dk_at D_Mach_assemble 14 rfl) (dk_at D_Mach_assemble 15 rfl) (dk_at D_Mach_assemble 16 rfl) ⟨rfl, Or.inr ⟨rfl, hm0, c_26, hW.asm h.1 ⟨_, _, _, _, _, _, h.2⟩⟩⟩
  · exact r_throw_ hk hR ex_ise (dk_at D_Mach_assemble 4 rfl) (dk_at D_Mach_assemble 5 rfl) (dk_at D_Mach_assemble 6 rfl) (dk_at D_Mach_assemble 7 rfl) ⟨rfl, Or.inl ⟨rfl, by omega, h⟩⟩
theorem c_Line_init (G : Gt) {ad : Ix → Nat} {w : Wt} {i : Ix} {a : Nat} {l : Ln} (ha : ad i = a) (h : w i = some (lO (0, 0, 0, 0) 0 0 0)) : Mt G y_Line_init w_Line_init 1 0 0 [.ref a, .int (i32 l.1), .int (i32 l.2.1), .int (i32 l.2.2.1), .int (i32 l.2.2.2)] ad w (ex none ad (up w i (some (lO l 0 0 0)))) noT := by
  refine Mt.to [some (.ref a), some (.int (i32 l.1)), some (.int (i32 l.2.1)), some (.int (i32 l.2.2.1)), some (.int (i32 l.2.2.2))] (fun K hk hR hin => ?_)
  obtain ⟨r1, r2, r3, r4⟩ := hR
  refine r_aload_n (i := 0) hk (dk_at D_Line_init 0 rfl) rfl rfl ?_
  refine r_objInit hk mo_Line_1 oi_1 oi_2 (dk_at D_Line_init 1 rfl) ⟨by omega, by omega⟩ (by decide) ?_
  refine r_aload_n (i := 0) hk (dk_at D_Line_init 2 rfl) rfl rfl ?_
  refine r_iload_n (i := 1) hk (dk_at D_Line_init 3 rfl) rfl rfl ?_
  refine r_putF (fs' := [_, _, _, _, _, _, _]) hk hin fl_Line_7 ft_Line_0 rfl (dk_at D_Line_init 4 rfl) ?_ (ha := ha) (hw := h)
  refine r_aload_n (i := 0) hk (dk_at D_Line_init 5 rfl) rfl rfl ?_
  refine r_iload_n (i := 2) hk (dk_at D_Line_init 6 rfl) rfl rfl ?_
  refine r_putF (fs' := [_, _, _, _, _, _, _]) hk hin fl_Line_13 ft_Line_1 rfl (dk_at D_Line_init 7 rfl) ?_ (ha := ha) (hw := up_s)
  refine r_we up_up ?_
  refine r_aload_n (i := 0) hk (dk_at D_Line_init 8 rfl) rfl rfl ?_
  refine r_iload_n (i := 3) hk (dk_at D_Line_init 9 rfl) rfl rfl ?_
  refine r_putF (fs' := [_, _, _, _, _, _, _]) hk hin fl_Line_16 ft_Line_2 rfl (dk_at D_Line_init 10 rfl) ?_ (ha := ha) (hw := up_s)
  refine r_we up_up ?_
  refine r_aload_n (i := 0) hk (dk_at D_Line_init 11 rfl) rfl rfl ?_
  refine r_iload (i := 4) hk (dk_at D_Line_init 12 rfl) rfl ?_
  refine r_putF (fs' := [_, _, _, _, _, _, _]) hk hin fl_Line_19 ft_Line_3 rfl (dk_at D_Line_init 13 rfl) ?_ (ha := ha) (hw := up_s)
  refine r_we up_up ?_
  exact r_vret hk (dk_at D_Line_init 14 rfl) ex.rf
def lnB (l : Ln) : Bool := match knd l.2.1 with
  | none => false
  | some k => isP l.1 && (isP l.2.2.2 && (if k = 11 then decide (-1 ≤ l.2.2.1 ∧ l.2.2.1 < 10) else isP l.2.2.1))
theorem lnB_t {l : Ln} (h : lnB l = true) : okL l := by
  unfold lnB at h
  cases hk : knd l.2.1 with
  | none => rw [hk] at h; cases h
  | some k =>
    rw [hk] at h
    simp only [Bool.and_eq_true] at h
    refine ⟨h.1, h.2.1, k, hk, fun e => ?_, fun e => ?_⟩
    · have := h.2.2; rw [if_pos e] at this; exact of_decide_eq_true this
    · have := h.2.2; rw [if_neg e] at this; exact this
theorem lnB_k {l : Ln} {k : Nat} (h : knd l.2.1 = some k) : lnB l = (isP l.1 && (isP l.2.2.2 && (if k = 11 then decide (-1 ≤ l.2.2.1 ∧ l.2.2.1 < 10) else isP l.2.2.1))) := by unfold lnB; rw [h]
theorem lnB_n {l : Ln} (h : knd l.2.1 = none) : lnB l = false := by unfold lnB; rw [h]
/-- a new line's cell, behind the others -/
theorem WW.newl {w0 w : Wt} {ad : Ix → Nat} {c : Nat → Nat → Nat} {g : Nat → Bool} {t : Nat} {A : Nat} {mn : Bool} {ov : Bool} {dv : Nat} {dm : Bool} {nx : Nat} {fl : Int} {q : Nat → Nat × Bool} {qn : Nat} {o : Nat → Nat × Bool} {on : Nat} {ln : Nat → Int × Int × Int × Int} {m : Nat} {r : Nat → Bool} {p : Nat → Int} {fc : Nat} {a : Nat} {l : Ln} {op fu : Bool} {f : Nat → Value} (h : WW w0 ad w (c, g, t, A, mn, ov, dv, dm, nx, fl, q, qn, o, on, ln, m, r, p, fc)) (h17 : w (17, 0) = some (.inr (5, 40, f))) (hf : ∀ k, k < m → f k = .ref (ad (27, k))) : WW w0 (up ad (27, m) a) (up (up (up w (27, m) (some (lO l 0 0 0))) (17, 0) (some (.inr (5, 40, updV f m (.ref a))))) (16, 0) (some (aO (up ad (27, m) a) (m + 1) op fu))) (c, g, t, A, mn, ov, dv, dm, nx, fl, q, qn, o, on, fu_ ln m l, m + 1, r, p, fc) := by
  obtain ⟨h0, h1, h2, h3, h4, ⟨op1, fu1, gv, at_, td, tn, s1, s2, s3, s4, s5, s6⟩, h7, h8⟩ := h
  have hn : ∀ x : Ix, x ≠ (27, m) → x ≠ (17, 0) → x ≠ (16, 0) → up (up (up w (27, m) (some (lO l 0 0 0))) (17, 0) (some (.inr (5, 40, updV f m (.ref a))))) (16, 0) (some (aO (up ad (27, m) a) (m + 1) op fu)) x = w x := fun x a b d => (up_n d).trans ((up_n b).trans (up_n a))
  have e2 : ∀ lo hi, (Nat.blt 27 lo || Nat.blt hi 27) = true → (Nat.blt 17 lo || Nat.blt hi 17) = true → (Nat.blt 16 lo || Nat.blt hi 16) = true → eqOn lo hi w (up (up (up w (27, m) (some (lO l 0 0 0))) (17, 0) (some (.inr (5, 40, updV f m (.ref a))))) (16, 0) (some (aO (up ad (27, m) a) (m + 1) op fu))) := fun lo hi a b d x y => (eqOn.up d x y).trans ((eqOn.up b x y).trans (eqOn.up a x y))
  refine ⟨fun j hj => (hn j (fun e => by subst e; revert hj; show ¬ 28 ≤ 27; decide) (fun e => by subst e; revert hj; decide) (fun e => by subst e; revert hj; decide)).trans (h0 j hj), h1.fr (e2 _ _ rfl rfl rfl), h2.fr (e2 _ _ rfl rfl rfl), h3.fr (e2 _ _ rfl rfl rfl), h4.fr (e2 _ _ rfl rfl rfl), ⟨op, fu, gv, fu_ at_ m 0, fu_ td m 0, fu_ tn m 0, up_s, ⟨_, (up_n (by intro e; cases e)).trans up_s, fun k hk => ?_⟩, (hn _ (by intro e; cases e) (by intro e; cases e) (by intro e; cases e)).trans s3, (hn _ (by intro e; cases e) (by intro e; cases e) (by intro e; cases e)).trans s4, (hn _ (by intro e; cases e) (by intro e; cases e) (by intro e; cases e)).trans s5, fun k hk => ?_⟩, (hn _ (by intro e; cases e) (by intro e; cases e) (by intro e; cases e)).trans h7, h8.fr (e2 _ _ rfl rfl rfl)⟩
  · by_cases e : k = m
    · rw [e, updV_s, up_s]
    · rw [updV_n e, up_n (fun z => e (congrArg Prod.snd z))]; exact hf k (by omega)
  · by_cases e : k = m
    · rw [e, fu_s, fu_s, fu_s, fu_s]; exact (up_n (by intro e; cases e)).trans ((up_n (by intro e; cases e)).trans up_s)
    · rw [fu_n e, fu_n e, fu_n e, fu_n e]
      exact (hn _ (fun z => e (congrArg Prod.snd z)) (by intro e; cases e) (by intro e; cases e)).trans (s6 k (by omega))
theorem r_forget {G : Gt} {K : Kt} {nL : Nat} {Q : State → Prop} {cs ss pc : Nat} {ls : List (Option Value)} {st : List Value} {ad : Ix → Nat} {w : Wt} (i : Ix) (kk : V G K nL Q cs ss pc ls st ad (up w i none)) : V G K nL Q cs ss pc ls st ad w := r_few (fun j c hj => by
  rcases up_c w i j none with ⟨rfl, e⟩ | ⟨-, e⟩
  · rw [e] at hj; cases hj
  · rw [e] at hj; exact hj) kk
theorem c_Mach_line (G : Gt) {w0 w : Wt} {ad : Ix → Nat} {c : Nat → Nat → Nat} {g : Nat → Bool} {t : Nat} {A : Nat} {mn : Bool} {ov : Bool} {dv : Nat} {dm : Bool} {nx : Nat} {fl : Int} {q : Nat → Nat × Bool} {qn : Nat} {o : Nat → Nat × Bool} {on : Nat} {ln : Nat → Int × Int × Int × Int} {m : Nat} {r : Nat → Bool} {p : Nat → Int} {fc : Nat} {l : Ln} (q1 : -2147483648 ≤ l.1 ∧ l.1 < 2147483648) (q2 : -2147483648 ≤ l.2.1 ∧ l.2.1 < 2147483648) (q3 : -2147483648 ≤ l.2.2.1 ∧ l.2.2.1 < 2147483648) (q4 : -2147483648 ≤ l.2.2.2 ∧ l.2.2.2 < 2147483648) (h : WW w0 ad w (c, g, t, A, mn, ov, dv, dm, nx, fl, q, qn, o, on, ln, m, r, p, fc)) (hm : m ≤ 40) : Mt G y_Mach_line w_Mach_line 7 2 13 [.ref (ad (0, 0)), .int (i32 l.1), .int (i32 l.2.1), .int (i32 l.2.2.1), .int (i32 l.2.2.2)] ad w (fun rv ad' w' => rv = some (.int (i32 (m : Nat))) ∧ (∃ a, ad' = up ad (27, m) a) ∧ WW w0 ad' w' (c, g, t, A, mn, ov, dv, dm, nx, fl, q, qn, o, on, fu_ ln m l, m + 1, r, p, fc) ∧ lnB l = true ∧ m ≠ 40) (fun C ad' w' => ad' = ad ∧ WW w0 ad w' (c, g, t, A, mn, ov, dv, dm, nx, fl, q, qn, o, on, ln, m, r, p, fc) ∧ ((C = "java/lang/IllegalArgumentException" ∧ lnB l = false) ∨ (C = "java/lang/IllegalStateException" ∧ lnB l = true ∧ m = 40))) := by
  refine Mt.to [some (.ref (ad (0, 0))), some (.int (i32 l.1)), some (.int (i32 l.2.1)), some (.int (i32 l.2.2.1)), some (.int (i32 l.2.2.2)), none] (fun K hk hR hin => ?_)
  have h0 := h.m0
  obtain ⟨op1, fu1, gv1, at1, td1, tn1, hS⟩ := h.as
  have h16 := hS.1
  obtain ⟨f, h17, hf⟩ := hS.2.1
  have m60 : ∀ (b : Bool) (x : Value), b = lnB l → V G K 6 (QE G K (fun rv ad' w' => rv = some (.int (i32 (m : Nat))) ∧ (∃ a, ad' = up ad (27, m) a) ∧ WW w0 ad' w' (c, g, t, A, mn, ov, dv, dm, nx, fl, q, qn, o, on, fu_ ln m l, m + 1, r, p, fc) ∧ lnB l = true ∧ m ≠ 40) (fun C ad' w' => ad' = ad ∧ WW w0 ad w' (c, g, t, A, mn, ov, dv, dm, nx, fl, q, qn, o, on, ln, m, r, p, fc) ∧ ((C = "java/lang/IllegalArgumentException" ∧ lnB l = false) ∨ (C = "java/lang/IllegalStateException" ∧ lnB l = true ∧ m = 40))) 2 13) 0 0 60 [some (.ref (ad (0, 0))), some (.int (i32 l.1)), some (.int (i32 l.2.1)), some (.int (i32 l.2.2.1)), some (.int (i32 l.2.2.2)), some x] [.int (i32 (b2i b))] ad w := by
    intro b x hb
    refine r_need hk hR ml_Mach_237 (dk_at D_Mach_line 27 rfl) (fun c_60 => ⟨rfl, h, Or.inl ⟨rfl, by rw [← hb]; exact c_60⟩⟩) (fun c_60 => ?_)
    have hok : lnB l = true := by rw [← hb]; exact c_60
    refine r_aload_n (i := 0) hk (dk_at D_Mach_line 28 rfl) rfl rfl ?_
    refine r_get hk fl_Mach_89 (dk_at D_Mach_line 29 rfl) ?_ (hw := h0)
    refine r_getN hk fl_Mach_266 (dk_at D_Mach_line 30 rfl) ?_ (hw := h16)
    refine r_bipush hk (dk_at D_Mach_line 31 rfl) (by decide) ?_
    refine r_icmp_ne (t := 83) hk (dk_at D_Mach_line 32 rfl) (by decide) (by omega) (by omega) (fun c_72 => ?_) (fun c_72 => ?_)
    · have hm2 : m < 40 := by omega
      refine r_aload_n (i := 0) hk (dk_at D_Mach_line 37 rfl) rfl rfl ?_
      refine r_get hk fl_Mach_89 (dk_at D_Mach_line 38 rfl) ?_ (hw := h0)
      refine r_getN hk fl_Mach_269 (dk_at D_Mach_line 39 rfl) ?_ (hw := h16)
      refine r_aload_n (i := 0) hk (dk_at D_Mach_line 40 rfl) rfl rfl ?_
      refine r_get hk fl_Mach_89 (dk_at D_Mach_line 41 rfl) ?_ (hw := h0)
      refine r_getN hk fl_Mach_266 (dk_at D_Mach_line 42 rfl) ?_ (hw := h16)
      obtain ⟨r1, r2, r3, r4⟩ := hR
      refine r_forget (27, m) ?_
      refine r_new (i := (27, m)) (ci := 5) (fs := [.int (i32 0), .int (i32 0), .int (i32 0), .int (i32 0), .int (i32 0), .int (i32 0), .int (i32 0)]) hk cl_Mach_273 in_Line (tw_mem 15 (by decide +kernel) rfl) rfl (dk_at D_Mach_line 43 rfl) up_s (by intro r hr k hk9; cases hr; revert k; decide +kernel) (by omega) (by omega) (fun a => ?_)
      refine r_we up_up ?_
      have ea : up ad (27, m) a (27, m) = a := up_s
      refine r_dup hk (dk_at D_Mach_line 44 rfl) rfl ?_
      refine r_iload_n (i := 1) hk (dk_at D_Mach_line 45 rfl) rfl rfl ?_
      refine r_iload_n (i := 2) hk (dk_at D_Mach_line 46 rfl) rfl rfl ?_
      refine r_iload_n (i := 3) hk (dk_at D_Mach_line 47 rfl) rfl rfl ?_
      refine r_iload (i := 4) hk (dk_at D_Mach_line 48 rfl) rfl ?_
      refine r_callIp hk ⟨r1, r2, r3, r4⟩ m_Line_init s_Line_init ml_Mach_275 (dk_at D_Mach_line 49 rfl) (c_Line_init G (l := l) (i := (27, m)) ea up_s) (fun v ad2 w2 hp => ?_) VT_no
      obtain ⟨rfl, rfl, rfl⟩ := hp
      refine r_we up_up ?_
      refine r_st (st' := [.ref a, .int (i32 (m : Nat)), .ref (ad (17, 0))]) rfl ?_
      refine r_aastore (ix := m) hk (dk_at D_Mach_line 50 rfl) ?_ (i := (17, 0)) (t := 5) (k := (27, m)) (ci := 5) (hb := ea) (hv := up_s) (hw := (up_n (by intro e; cases e)).trans h17)
      refine r_aload_n (i := 0) hk (dk_at D_Mach_line 51 rfl) rfl rfl ?_
      refine r_get hk fl_Mach_89 (dk_at D_Mach_line 52 rfl) ?_ (i := (0, 0)) (hw := (up_n (by intro e; cases e)).trans ((up_n (by intro e; cases e)).trans h0))
      refine r_dup hk (dk_at D_Mach_line 53 rfl) rfl ?_
      refine r_getN hk fl_Mach_266 (dk_at D_Mach_line 54 rfl) ?_ (i := (16, 0)) (hw := (up_n (by intro e; cases e)).trans ((up_n (by intro e; cases e)).trans h16))
      refine r_iconst hk (dk_at D_Mach_line 55 rfl) ?_
      refine r_iadd hk (dk_at D_Mach_line 56 rfl) ?_
      refine r_topi (x' := ((m + 1 : Nat) : Int)) (by omega) ?_
      refine r_putN (fs' := [_, _, _, _, _, _, _]) hk fl_Mach_266 ft_Asm_1 (dk_at D_Mach_line 57 rfl) ?_ (i := (16, 0)) (hw := (up_n (by intro e; cases e)).trans ((up_n (by intro e; cases e)).trans h16))
      refine r_aload_n (i := 0) hk (dk_at D_Mach_line 58 rfl) rfl rfl ?_
      refine r_get hk fl_Mach_89 (dk_at D_Mach_line 59 rfl) ?_ (i := (0, 0)) (hw := (up_n (by intro e; cases e)).trans ((up_n (by intro e; cases e)).trans ((up_n (by intro e; cases e)).trans h0)))
      refine r_getN hk fl_Mach_266 (dk_at D_Mach_line 60 rfl) ?_ (i := (16, 0)) (hw := up_s)
      refine r_iconst hk (dk_at D_Mach_line 61 rfl) ?_
      refine r_isub hk (dk_at D_Mach_line 62 rfl) ?_
      refine r_topi (x' := ((m : Nat) : Int)) (by omega) ?_
      exact r_iret hk (dk_at D_Mach_line 63 rfl) ⟨rfl, ⟨a, rfl⟩, h.newl h17 hf, hok, by omega⟩
    · exact r_throw_ hk hR ex_ise (dk_at D_Mach_line 33 rfl) (dk_at D_Mach_line 34 rfl) (dk_at D_Mach_line 35 rfl) (dk_at D_Mach_line 36 rfl) ⟨rfl, h, Or.inr ⟨rfl, hok, by omega⟩⟩
  have zero : ∀ x : Value, lnB l = false → V G K 6 (QE G K (fun rv ad' w' => rv = some (.int (i32 (m : Nat))) ∧ (∃ a, ad' = up ad (27, m) a) ∧ WW w0 ad' w' (c, g, t, A, mn, ov, dv, dm, nx, fl, q, qn, o, on, fu_ ln m l, m + 1, r, p, fc) ∧ lnB l = true ∧ m ≠ 40) (fun C ad' w' => ad' = ad ∧ WW w0 ad w' (c, g, t, A, mn, ov, dv, dm, nx, fl, q, qn, o, on, ln, m, r, p, fc) ∧ ((C = "java/lang/IllegalArgumentException" ∧ lnB l = false) ∨ (C = "java/lang/IllegalStateException" ∧ lnB l = true ∧ m = 40))) 2 13) 0 0 59 [some (.ref (ad (0, 0))), some (.int (i32 l.1)), some (.int (i32 l.2.1)), some (.int (i32 l.2.2.1)), some (.int (i32 l.2.2.2)), some x] [] ad w := by
    intro x hf0
    refine r_iconst hk (dk_at D_Mach_line 26 rfl) ?_
    exact m60 false x hf0.symm
  refine r_iload_n (i := 2) hk (dk_at D_Mach_line 0 rfl) rfl rfl ?_
  refine r_callS hk hR m_Mach_kind s_Mach_kind ml_Mach_223 (dk_at D_Mach_line 1 rfl) (c_Mach_kind G (z := l.2.1) q2) ?_
  cases hkn : knd l.2.1 with
  | none =>
    have hf0 := lnB_n hkn
    refine r_astoreN (ls' := [_, _, _, _, _, _]) hk (dk_at D_Mach_line 2 rfl) rfl rfl rfl ?_
    refine r_iload_n (i := 1) hk (dk_at D_Mach_line 3 rfl) rfl rfl ?_
    refine r_callS hk hR m_Mach_isPart s_Mach_isPart ml_Mach_263 (dk_at D_Mach_line 4 rfl) (c_Mach_isPart G (z := l.1) q1) ?_
    refine r_if_eqB (t := 59) hk (dk_at D_Mach_line 5 rfl) (by decide) (fun c_10 => ?_) (fun c_10 => ?_)
    · exact zero _ hf0
    · refine r_aloadN hk (dk_at D_Mach_line 6 rfl) rfl ?_
      refine r_ifnullN (t := 59) hk (dk_at D_Mach_line 7 rfl) (by decide) ?_
      exact zero _ hf0
  | some k =>
    have hB := lnB_k hkn
    have h13 := (knd_r hkn).2.2.1
    refine r_astore (i := 5) (ls' := [_, _, _, _, _, _]) hk (dk_at D_Mach_line 2 rfl) rfl rfl rfl ?_
    refine r_iload_n (i := 1) hk (dk_at D_Mach_line 3 rfl) rfl rfl ?_
    refine r_callS hk hR m_Mach_isPart s_Mach_isPart ml_Mach_263 (dk_at D_Mach_line 4 rfl) (c_Mach_isPart G (z := l.1) q1) ?_
    refine r_if_eqB (t := 59) hk (dk_at D_Mach_line 5 rfl) (by decide) (fun c_10 => ?_) (fun c_10 => ?_)
    · exact zero _ (by rw [hB, c_10]; rfl)
    · refine r_aload (i := 5) hk (dk_at D_Mach_line 6 rfl) rfl ?_
      refine r_ifnull hk (dk_at D_Mach_line 7 rfl) ?_
      refine r_iload (i := 4) hk (dk_at D_Mach_line 8 rfl) rfl ?_
      refine r_callS hk hR m_Mach_isPart s_Mach_isPart ml_Mach_263 (dk_at D_Mach_line 9 rfl) (c_Mach_isPart G (z := l.2.2.2) q4) ?_
      refine r_if_eqB (t := 59) hk (dk_at D_Mach_line 10 rfl) (by decide) (fun c_23 => ?_) (fun c_23 => ?_)
      · exact zero _ (by rw [hB, c_23, Bool.false_and, Bool.and_false])
      · refine r_aload (i := 5) hk (dk_at D_Mach_line 11 rfl) rfl ?_
        refine r_getK (k := 11) hk kf_Mach_37 rfl (dk_at D_Mach_line 12 rfl) ?_
        refine r_acmp_ne (t := 48) hk (dk_at D_Mach_line 13 rfl) (by decide) (fun c_31 => ?_) (fun c_31 => ?_)
        · have n11 : k ≠ 11 := fun z => c_31 (by rw [z])
          rw [if_neg n11] at hB
          refine r_iload_n (i := 3) hk (dk_at D_Mach_line 21 rfl) rfl rfl ?_
          refine r_callS hk hR m_Mach_isPart s_Mach_isPart ml_Mach_263 (dk_at D_Mach_line 22 rfl) (c_Mach_isPart G (z := l.2.2.1) q3) ?_
          refine r_if_eqB (t := 59) hk (dk_at D_Mach_line 23 rfl) (by decide) (fun c_52 => ?_) (fun c_52 => ?_)
          · exact zero _ (by rw [hB, c_52, Bool.and_false, Bool.and_false])
          · refine r_iconst hk (dk_at D_Mach_line 24 rfl) ?_
            refine r_goto (t := 60) hk (dk_at D_Mach_line 25 rfl) (by decide) ?_
            exact m60 true _ (by rw [hB, c_10, c_23, c_52]; rfl)
        · have e11 : k = 11 := kinds_ne hk h13 (by decide) (Decidable.byContradiction c_31)
          rw [if_pos e11] at hB
          refine r_iload_n (i := 3) hk (dk_at D_Mach_line 14 rfl) rfl rfl ?_
          refine r_iconst hk (dk_at D_Mach_line 15 rfl) ?_
          refine r_icmp_lt (t := 59) hk (dk_at D_Mach_line 16 rfl) (by decide) (by omega) (by omega) (fun c_36 => ?_) (fun c_36 => ?_)
          · exact zero _ (by rw [hB, decide_eq_false (by omega), Bool.and_false, Bool.and_false])
          · refine r_iload_n (i := 3) hk (dk_at D_Mach_line 17 rfl) rfl rfl ?_
            refine r_bipush hk (dk_at D_Mach_line 18 rfl) (by decide) ?_
            refine r_icmp_ge (t := 59) hk (dk_at D_Mach_line 19 rfl) (by decide) (by omega) (by omega) (fun c_42 => ?_) (fun c_42 => ?_)
            · exact zero _ (by rw [hB, decide_eq_false (by omega), Bool.and_false, Bool.and_false])
            · refine r_goto (t := 55) hk (dk_at D_Mach_line 20 rfl) (by decide) ?_
              refine r_iconst hk (dk_at D_Mach_line 24 rfl) ?_
              refine r_goto (t := 60) hk (dk_at D_Mach_line 25 rfl) (by decide) ?_
              exact m60 true _ (by rw [hB, c_10, c_23, decide_eq_true (by omega)]; rfl)
