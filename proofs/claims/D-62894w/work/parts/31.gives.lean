theorem c_Asm_complete (G : Gt) {w0 w : Wt} {ad : Ix → Nat} {ln : Nat → Ln} {m : Nat} {r : Nat → Bool} {p : Nat → Int} {op fu : Bool} {gv : Nat → Bool} {at_ td tn : Nat → Int} {k : Nat} (h : vA w0 ad w ln m r p op fu gv at_ td tn) (hkm : k < m) (hm : m ≤ 40) (hl : ∀ k, k < m → okL (ln k)) (hp : okP p) (hat : 0 ≤ at_ k ∧ at_ k < 200) : Mt G y_Asm_complete w_Asm_complete 2 0 0 [.ref (ad (16, 0)), .int (i32 k)] ad w (fun rv ad' w' => rv = none ∧ ad' = ad ∧ vA w0 ad w' ln m r ((cmN op ln m k (cmB (ln k) (at_ k) (cmD op (ln k) (at_ k) (gv, fu, p)).2) (cmD op (ln k) (at_ k) (gv, fu, p)).1).1.2.2) op ((cmN op ln m k (cmB (ln k) (at_ k) (cmD op (ln k) (at_ k) (gv, fu, p)).2) (cmD op (ln k) (at_ k) (gv, fu, p)).1).1.2.1) ((cmN op ln m k (cmB (ln k) (at_ k) (cmD op (ln k) (at_ k) (gv, fu, p)).2) (cmD op (ln k) (at_ k) (gv, fu, p)).1).1.1) at_ (fu_ td k (cmD op (ln k) (at_ k) (gv, fu, p)).2) (fu_ tn k (cmN op ln m k (cmB (ln k) (at_ k) (cmD op (ln k) (at_ k) (gv, fu, p)).2) (cmD op (ln k) (at_ k) (gv, fu, p)).1).2)) noT := by
  have hkl := hl k hkm
  obtain ⟨k1, k2, k3, k4, k5⟩ := hkl.k
  have hnr := isP_r hkl.2.1
  refine Mt.to [some (.ref (ad (16, 0))), some (.int (i32 k)), none, none, none] (fun K hk hR hin => ?_)
  have h16 := h.a16
  obtain ⟨f, h17, hf⟩ := h.a17
  have h27 := h.a27 hkm
  have m51 : ∀ (w : Wt) (R : AS × Int), (cmD op (ln k) (at_ k) (gv, fu, p)) = R → vA w0 ad w ln m r R.1.2.2 op R.1.2.1 R.1.1 at_ td tn → V G K 5 (QE G K (fun rv ad' w' => rv = none ∧ ad' = ad ∧ vA w0 ad w' ln m r ((cmN op ln m k (cmB (ln k) (at_ k) (cmD op (ln k) (at_ k) (gv, fu, p)).2) (cmD op (ln k) (at_ k) (gv, fu, p)).1).1.2.2) op ((cmN op ln m k (cmB (ln k) (at_ k) (cmD op (ln k) (at_ k) (gv, fu, p)).2) (cmD op (ln k) (at_ k) (gv, fu, p)).1).1.2.1) ((cmN op ln m k (cmB (ln k) (at_ k) (cmD op (ln k) (at_ k) (gv, fu, p)).2) (cmD op (ln k) (at_ k) (gv, fu, p)).1).1.1) at_ (fu_ td k (cmD op (ln k) (at_ k) (gv, fu, p)).2) (fu_ tn k (cmN op ln m k (cmB (ln k) (at_ k) (cmD op (ln k) (at_ k) (gv, fu, p)).2) (cmD op (ln k) (at_ k) (gv, fu, p)).1).2)) noT 0 0) 0 0 51 [some (.ref (ad (16, 0))), some (.int (i32 (k : Nat))), some (.ref (ad (27, k))), none, none] [.int (i32 R.2), .ref (ad (27, k))] ad w := by
    intro w R hRR h
    have hdr := cmD_r (op := op) (l := ln k) (a := at_ k) (s := (gv, fu, p)) hp hkl
    have h27 := h.a27 hkm
    rw [hRR] at hdr
    have m80 : ∀ (w : Wt) (v : Int), vA w0 ad w ln m r R.1.2.2 op R.1.2.1 R.1.1 at_ (fu_ td k R.2) tn → v = (if acs (kd (ln k)) = true then R.2 else at_ k) → V G K 5 (QE G K (fun rv ad' w' => rv = none ∧ ad' = ad ∧ vA w0 ad w' ln m r ((cmN op ln m k (cmB (ln k) (at_ k) (cmD op (ln k) (at_ k) (gv, fu, p)).2) (cmD op (ln k) (at_ k) (gv, fu, p)).1).1.2.2) op ((cmN op ln m k (cmB (ln k) (at_ k) (cmD op (ln k) (at_ k) (gv, fu, p)).2) (cmD op (ln k) (at_ k) (gv, fu, p)).1).1.2.1) ((cmN op ln m k (cmB (ln k) (at_ k) (cmD op (ln k) (at_ k) (gv, fu, p)).2) (cmD op (ln k) (at_ k) (gv, fu, p)).1).1.1) at_ (fu_ td k (cmD op (ln k) (at_ k) (gv, fu, p)).2) (fu_ tn k (cmN op ln m k (cmB (ln k) (at_ k) (cmD op (ln k) (at_ k) (gv, fu, p)).2) (cmD op (ln k) (at_ k) (gv, fu, p)).1).2)) noT 0 0) 0 0 80 [some (.ref (ad (16, 0))), some (.int (i32 (k : Nat))), some (.ref (ad (27, k))), some (.ref (G.2.2.2.1 (kd (ln k)))), none] [.int (i32 v)] ad w := by
      intro w v h hv
      have hvr : 0 ≤ v ∧ v < 200 := by rw [hv]; split <;> omega
      have h27 := h.a27 hkm
      have h16 := h.a16
      obtain ⟨f, h17, hf⟩ := h.a17
      have htk := tks_le (kd (ln k)) (ln k).2.1.toNat R.2.toNat
      have hcb : cmB (ln k) (at_ k) R.2 = (v + 1 + (tks (kd (ln k)) (ln k).2.1.toNat R.2.toNat : Nat)).toNat := by unfold cmB; rw [← hv]
      have hcb2 : cmB (ln k) (at_ k) R.2 < 1000 := by rw [hcb]; omega
      generalize hbb : cmB (ln k) (at_ k) R.2 = b at hcb hcb2
      have hNR : (cmN op ln m k (cmB (ln k) (at_ k) (cmD op (ln k) (at_ k) (gv, fu, p)).2) (cmD op (ln k) (at_ k) (gv, fu, p)).1) = cmN op ln m k b R.1 := by rw [hRR, hbb]
      have fin : ∀ (w : Wt) (N : AS × Int), cmN op ln m k b R.1 = N → vA w0 ad w ln m r N.1.2.2 op N.1.2.1 N.1.1 at_ (fu_ td k R.2) tn → V G K 5 (QE G K (fun rv ad' w' => rv = none ∧ ad' = ad ∧ vA w0 ad w' ln m r ((cmN op ln m k (cmB (ln k) (at_ k) (cmD op (ln k) (at_ k) (gv, fu, p)).2) (cmD op (ln k) (at_ k) (gv, fu, p)).1).1.2.2) op ((cmN op ln m k (cmB (ln k) (at_ k) (cmD op (ln k) (at_ k) (gv, fu, p)).2) (cmD op (ln k) (at_ k) (gv, fu, p)).1).1.2.1) ((cmN op ln m k (cmB (ln k) (at_ k) (cmD op (ln k) (at_ k) (gv, fu, p)).2) (cmD op (ln k) (at_ k) (gv, fu, p)).1).1.1) at_ (fu_ td k (cmD op (ln k) (at_ k) (gv, fu, p)).2) (fu_ tn k (cmN op ln m k (cmB (ln k) (at_ k) (cmD op (ln k) (at_ k) (gv, fu, p)).2) (cmD op (ln k) (at_ k) (gv, fu, p)).1).2)) noT 0 0) 0 0 164 [some (.ref (ad (16, 0))), some (.int (i32 (k : Nat))), some (.ref (ad (27, k))), some (.ref (G.2.2.2.1 (kd (ln k)))), some (.int (i32 (b : Nat)))] [.int (i32 N.2), .ref (ad (27, k))] ad w := by
        intro w N hN h
        have h27 := h.a27 hkm
        rw [hNR, hRR, hN]
        refine r_putN (fs' := [_, _, _, _, _, _, _]) hk fl_Asm_67 ft_Line_6 (dk_at D_Asm_complete 88 rfl) ?_ (hw := h27)
        exact r_vret hk (dk_at D_Asm_complete 89 rfl) ⟨rfl, rfl, by have h9 := h.lin (k := k) (x := at_ k) (y := fu_ td k R.2 k) (z := N.2); rw [fu_id, fu_id] at h9; exact h9⟩
      refine r_iconst hk (dk_at D_Asm_complete 41 rfl) ?_
      refine r_iadd hk (dk_at D_Asm_complete 42 rfl) ?_
      refine r_aload_n (i := 3) hk (dk_at D_Asm_complete 43 rfl) rfl rfl ?_
      refine r_aload_n (i := 2) hk (dk_at D_Asm_complete 44 rfl) rfl rfl ?_
      refine r_getN hk fl_Asm_76 (dk_at D_Asm_complete 45 rfl) ?_ (hw := h27)
      refine r_topi (x' := (((ln k).2.1.toNat : Nat) : Int)) (by omega) ?_
      refine r_aload_n (i := 2) hk (dk_at D_Asm_complete 46 rfl) rfl rfl ?_
      refine r_getN hk fl_Asm_73 (dk_at D_Asm_complete 47 rfl) ?_ (hw := h27)
      refine r_topi (x' := ((R.2.toNat : Nat) : Int)) (by rw [fu_s]; omega) ?_
      refine r_callS hk hR m_Mach_takes s_Mach_takes ml_Asm_87 (dk_at D_Asm_complete 48 rfl) (c_Mach_takes G (k := kd (ln k)) (op := (ln k).2.1.toNat) (d := R.2.toNat) k3 (by omega) (by omega)) ?_
      refine r_iadd hk (dk_at D_Asm_complete 49 rfl) ?_
      refine r_topi (x' := ((b : Nat) : Int)) (by omega) ?_
      refine r_istore (i := 4) (ls' := [_, _, _, _, _]) hk (dk_at D_Asm_complete 50 rfl) rfl rfl rfl ?_
      refine r_aload_n (i := 2) hk (dk_at D_Asm_complete 51 rfl) rfl rfl ?_
      refine r_getN hk fl_Asm_56 (dk_at D_Asm_complete 52 rfl) ?_ (hw := h27)
      refine r_iconst hk (dk_at D_Asm_complete 53 rfl) ?_
      refine r_icmp_eq (t := 125) hk (dk_at D_Asm_complete 54 rfl) (by decide) (by omega) (by omega) (fun c_102 => ?_) (fun c_102 => ?_)
      · refine r_aload_n (i := 2) hk (dk_at D_Asm_complete 65 rfl) rfl rfl ?_
        refine r_iload_n (i := 1) hk (dk_at D_Asm_complete 66 rfl) rfl rfl ?_
        refine r_iconst hk (dk_at D_Asm_complete 67 rfl) ?_
        refine r_iadd hk (dk_at D_Asm_complete 68 rfl) ?_
        refine r_aload_n (i := 0) hk (dk_at D_Asm_complete 69 rfl) rfl rfl ?_
        refine r_get hk fl_Asm_38 (dk_at D_Asm_complete 70 rfl) ?_ (hw := h16)
        refine r_icmp_ge (t := 163) hk (dk_at D_Asm_complete 71 rfl) (by decide) (by omega) (by omega) (fun c_133 => ?_) (fun c_133 => ?_)
        · have e : cmN op ln m k b R.1 = (R.1, 0) := (if_neg (by omega)).trans (if_neg (by omega))
          refine r_iconst hk (dk_at D_Asm_complete 87 rfl) ?_
          exact fin w _ e h
        · have h27b := h.a27 (k := k + 1) (by omega)
          have hlr := isP_r (hl (k + 1) (by omega)).1
          refine r_aload_n (i := 0) hk (dk_at D_Asm_complete 72 rfl) rfl rfl ?_
          refine r_get hk fl_Asm_11 (dk_at D_Asm_complete 73 rfl) ?_ (hw := h16)
          refine r_iload_n (i := 1) hk (dk_at D_Asm_complete 74 rfl) rfl rfl ?_
          refine r_iconst hk (dk_at D_Asm_complete 75 rfl) ?_
          refine r_iadd hk (dk_at D_Asm_complete 76 rfl) ?_
          refine r_aaload (ix := (k + 1)) hk (dk_at D_Asm_complete 77 rfl) ?_ (hw := h17)
          refine r_top (hf (k + 1) (by omega)) ?_
          refine r_getN hk fl_Asm_42 (dk_at D_Asm_complete 78 rfl) ?_ (hw := h27b)
          refine r_iconst hk (dk_at D_Asm_complete 79 rfl) ?_
          refine r_icmp_ne (t := 163) hk (dk_at D_Asm_complete 80 rfl) (by decide) (by omega) (by omega) (fun c_148 => ?_) (fun c_148 => ?_)
          · have e : cmN op ln m k b R.1 = (R.1, 0) := (if_neg (by omega)).trans (if_neg (by omega))
            refine r_iconst hk (dk_at D_Asm_complete 87 rfl) ?_
            exact fin w _ e h
          · have e : cmN op ln m k b R.1 = tk op b R.1 := (if_neg (by omega)).trans (if_pos (by omega))
            refine r_aload_n (i := 0) hk (dk_at D_Asm_complete 81 rfl) rfl rfl ?_
            refine r_iload (i := 4) hk (dk_at D_Asm_complete 82 rfl) rfl ?_
            refine r_bipush hk (dk_at D_Asm_complete 83 rfl) (by decide) ?_
            refine r_irem hk (dk_at D_Asm_complete 84 rfl) (by omega) (by omega) ?_
            refine r_topi (x' := ((b % 50 : Nat) : Int)) (by omega) ?_
            refine r_callVq hk hR m_Asm_take s_Asm_take ml_Asm_59 (dk_at D_Asm_complete 85 rfl) (c_Asm_take G (b := b % 50) h (by omega)) (fun w h => ?_) (i := (16, 0)) (hw := h16)
            rw [tk_mod] at h
            rw [tk_mod]
            refine r_goto (t := 164) hk (dk_at D_Asm_complete 86 rfl) (by decide) ?_
            exact fin w _ e (by rw [tk_p]; exact h)
      · have e : cmN op ln m k b R.1 = stl op (ln k).2.2.2 b R.1 := if_pos c_102
        refine r_aload_n (i := 2) hk (dk_at D_Asm_complete 55 rfl) rfl rfl ?_
        refine r_aload_n (i := 0) hk (dk_at D_Asm_complete 56 rfl) rfl rfl ?_
        refine r_aload_n (i := 2) hk (dk_at D_Asm_complete 57 rfl) rfl rfl ?_
        refine r_getN hk fl_Asm_56 (dk_at D_Asm_complete 58 rfl) ?_ (hw := h27)
        refine r_iload (i := 4) hk (dk_at D_Asm_complete 59 rfl) rfl ?_
        refine r_bipush hk (dk_at D_Asm_complete 60 rfl) (by decide) ?_
        refine r_irem hk (dk_at D_Asm_complete 61 rfl) (by omega) (by omega) ?_
        refine r_topi (x' := ((b % 50 : Nat) : Int)) (by omega) ?_
        refine r_callVq hk hR m_Asm_settle s_Asm_settle ml_Asm_63 (dk_at D_Asm_complete 62 rfl) (c_Asm_settle G (b := b % 50) h ⟨hkl.2.1, c_102⟩ (by omega) hdr.2) (fun w h => ?_) (i := (16, 0)) (hw := h16)
        rw [stl_mod] at h
        rw [stl_mod]
        have h27 := h.a27 hkm
        rw [hNR, hRR, e]
        refine r_putN (fs' := [_, _, _, _, _, _, _]) hk fl_Asm_67 ft_Line_6 (dk_at D_Asm_complete 63 rfl) ?_ (hw := h27)
        refine r_goto (t := 167) hk (dk_at D_Asm_complete 64 rfl) (by decide) ?_
        exact r_vret hk (dk_at D_Asm_complete 89 rfl) ⟨rfl, rfl, by have h9 := h.lin (k := k) (x := at_ k) (y := fu_ td k R.2 k) (z := (stl op (ln k).2.2.2 b R.1).2); rw [fu_id, fu_id] at h9; exact h9⟩
    refine r_putN (fs' := [_, _, _, _, _, _, _]) hk fl_Asm_73 ft_Line_5 (dk_at D_Asm_complete 28 rfl) ?_ (hw := h27)
    refine r_gp (fun w => vA w0 ad w ln m r R.1.2.2 op R.1.2.1 R.1.1 at_ (fu_ td k R.2) tn) (by have h9 := h.lin (k := k) (x := at_ k) (y := R.2) (z := tn k); rw [fu_id, fu_id] at h9; exact h9) (fun w h => ?_)
    have h27 := h.a27 hkm
    refine r_aload_n (i := 2) hk (dk_at D_Asm_complete 29 rfl) rfl rfl ?_
    refine r_getN hk fl_Asm_76 (dk_at D_Asm_complete 30 rfl) ?_ (hw := h27)
    refine r_callS hk hR m_Mach_kind s_Mach_kind ml_Asm_79 (dk_at D_Asm_complete 31 rfl) (c_Mach_kind G (z := (ln k).2.1) (by omega)) ?_
    rw [k1]
    refine r_top (show kv G (some (kd (ln k))) = .ref (G.2.2.2.1 (kd (ln k))) from rfl) ?_
    refine r_astore_n (i := 3) (ls' := [_, _, _, _, _]) hk (dk_at D_Asm_complete 32 rfl) rfl rfl rfl rfl ?_
    refine r_aload_n (i := 3) hk (dk_at D_Asm_complete 33 rfl) rfl rfl ?_
    refine r_callS hk hR m_Mach_accesses s_Mach_accesses ml_Asm_83 (dk_at D_Asm_complete 34 rfl) (c_Mach_accesses G (k := kd (ln k)) k3) ?_
    refine r_if_eqB (t := 76) hk (dk_at D_Asm_complete 35 rfl) (by decide) (fun c_66 => ?_) (fun c_66 => ?_)
    · refine r_aload_n (i := 2) hk (dk_at D_Asm_complete 39 rfl) rfl rfl ?_
      refine r_getN hk fl_Asm_70 (dk_at D_Asm_complete 40 rfl) ?_ (hw := h27)
      exact m80 w _ h (by rw [if_neg (by rw [c_66]; decide)])
    · refine r_aload_n (i := 2) hk (dk_at D_Asm_complete 36 rfl) rfl rfl ?_
      refine r_getN hk fl_Asm_73 (dk_at D_Asm_complete 37 rfl) ?_ (hw := h27)
      refine r_goto (t := 80) hk (dk_at D_Asm_complete 38 rfl) (by decide) ?_
      exact m80 w _ h (by rw [if_pos c_66, fu_s])
  have hdr2 := (fun h : (ln k).2.2.1 ≠ -1 => h)
  have hdr3 : -1 ≤ (ln k).2.2.1 ∧ (ln k).2.2.1 < 1020 := by
    by_cases e : kd (ln k) = 11
    · have := k4 e; omega
    · exact isP_r (k5 e)
  refine r_aload_n (i := 0) hk (dk_at D_Asm_complete 0 rfl) rfl rfl ?_
  refine r_get hk fl_Asm_11 (dk_at D_Asm_complete 1 rfl) ?_ (hw := h16)
  refine r_iload_n (i := 1) hk (dk_at D_Asm_complete 2 rfl) rfl rfl ?_
  refine r_aaload (ix := k) hk (dk_at D_Asm_complete 3 rfl) ?_ (hw := h17)
  refine r_top (hf k hkm) ?_
  refine r_astore_n (i := 2) (ls' := [_, _, _, _, _]) hk (dk_at D_Asm_complete 4 rfl) rfl rfl rfl rfl ?_
  refine r_aload_n (i := 2) hk (dk_at D_Asm_complete 5 rfl) rfl rfl ?_
  refine r_aload_n (i := 2) hk (dk_at D_Asm_complete 6 rfl) rfl rfl ?_
  refine r_getN hk fl_Asm_53 (dk_at D_Asm_complete 7 rfl) ?_ (hw := h27)
  refine r_iconst hk (dk_at D_Asm_complete 8 rfl) ?_
  refine r_icmp_ne (t := 20) hk (dk_at D_Asm_complete 9 rfl) (by decide) (by omega) (by omega) (fun c_13 => ?_) (fun c_13 => ?_)
  · refine r_aload_n (i := 2) hk (dk_at D_Asm_complete 12 rfl) rfl rfl ?_
    refine r_callV hk hR m_Line_shifts s_Line_shifts ml_Asm_49 (dk_at D_Asm_complete 13 rfl) (c_Line_shifts G h27 hkl) ?_ (i := (27, k)) (hw := h27)
    refine r_if_eqB (t := 34) hk (dk_at D_Asm_complete 14 rfl) (by decide) (fun c_24 => ?_) (fun c_24 => ?_)
    · have e : (cmD op (ln k) (at_ k) (gv, fu, p)) = stl op (ln k).2.2.1 (at_ k + 1).toNat (gv, fu, p) := (if_neg c_13).trans (if_neg (of_decide_eq_false c_24))
      refine r_aload_n (i := 0) hk (dk_at D_Asm_complete 18 rfl) rfl rfl ?_
      refine r_aload_n (i := 2) hk (dk_at D_Asm_complete 19 rfl) rfl rfl ?_
      refine r_getN hk fl_Asm_53 (dk_at D_Asm_complete 20 rfl) ?_ (hw := h27)
      refine r_aload_n (i := 2) hk (dk_at D_Asm_complete 21 rfl) rfl rfl ?_
      refine r_getN hk fl_Asm_70 (dk_at D_Asm_complete 22 rfl) ?_ (hw := h27)
      refine r_iconst hk (dk_at D_Asm_complete 23 rfl) ?_
      refine r_iadd hk (dk_at D_Asm_complete 24 rfl) ?_
      refine r_bipush hk (dk_at D_Asm_complete 25 rfl) (by decide) ?_
      refine r_irem hk (dk_at D_Asm_complete 26 rfl) (by omega) (by omega) ?_
      refine r_topi (x' := (((at_ k + 1).toNat % 50 : Nat) : Int)) (by omega) ?_
      refine r_callVq hk hR m_Asm_settle s_Asm_settle ml_Asm_63 (dk_at D_Asm_complete 27 rfl) (c_Asm_settle G (b := (at_ k + 1).toNat % 50) h ⟨k5 (of_decide_eq_false c_24), c_13⟩ (by omega) hp) (fun w h => ?_) (i := (16, 0)) (hw := h16)
      rw [stl_mod] at h
      rw [stl_mod]
      exact m51 w _ e h
    · refine r_aload_n (i := 2) hk (dk_at D_Asm_complete 15 rfl) rfl rfl ?_
      refine r_getN hk fl_Asm_53 (dk_at D_Asm_complete 16 rfl) ?_ (hw := h27)
      refine r_goto (t := 51) hk (dk_at D_Asm_complete 17 rfl) (by decide) ?_
      exact m51 w ((gv, fu, p), (ln k).2.2.1) ((if_neg c_13).trans (if_pos (of_decide_eq_true c_24))) h
  · refine r_iconst hk (dk_at D_Asm_complete 10 rfl) ?_
    refine r_goto (t := 51) hk (dk_at D_Asm_complete 11 rfl) (by decide) ?_
    exact m51 w ((gv, fu, p), 0) (if_pos (by omega)) h
theorem dupK_ext {a b : Nat → Int} {k : Nat} (h : ∀ j, j ≤ k → a j = b j) : dupK a k = dupK b k := by
  cases h1 : dupK a k with
  | true =>
    obtain ⟨j, hj, e⟩ := dupK_t.mp h1
    exact (dupK_t.mpr ⟨j, hj, by rw [← h j (by omega), ← h k (by omega)]; exact e⟩).symm
  | false =>
    cases h2 : dupK b k with
    | false => rfl
    | true =>
      obtain ⟨j, hj, e⟩ := dupK_t.mp h2
      rw [← h1]
      exact dupK_t.mpr ⟨j, hj, by rw [h j (by omega), h k (by omega)]; exact e⟩
def dupJ (at_ : Nat → Int) (k j : Nat) : Bool := (List.range j).any fun i => decide (at_ i = at_ k)
theorem dupJ_s {at_ : Nat → Int} {k j : Nat} : dupJ at_ k (j + 1) = (dupJ at_ k j || decide (at_ j = at_ k)) := by
  unfold dupJ
  rw [List.range_succ, List.any_append]
  simp
theorem lcR_ext {op : Bool} {ln : Nat → Ln} {k : Nat} {a b : Nat → Int} {s : AS} (h : 0 < k → a (k - 1) = b (k - 1)) : lcR op ln k a s = lcR op ln k b s := by
  unfold lcR
  split
  · rfl
  · split
    · rename_i h1; rw [h h1.1]
    · rfl
theorem asm_full {be : Bool} {r : Nat → Bool} {ln : Nat → Ln} {m k : Nat} (hk : k ≤ m) (h : (sq be ln m (s00 r ln m) k).1.2.1 = true) : asmOk be r ln m = false := by
  have := sq_m (m - k) h
  rw [show k + (m - k) = m by omega] at this
  unfold asmOk allS
  rw [this]; rfl
theorem asm_dup {be : Bool} {r : Nat → Bool} {ln : Nat → Ln} {m k : Nat} (hk : k < m) (h : dupK (sq be ln m (s00 r ln m) (k + 1)).2.1 k = true) : asmOk be r ln m = false := by
  have e : dupK (allS be r ln m).2.1 k = true := by
    rw [← h]
    refine dupK_ext (fun j hj => ?_)
    have := sq_at (op := be) (ln := ln) (m := m) (s0 := s00 r ln m) (k := k + 1) (j := j) (by omega) (m - (k + 1))
    rw [show k + 1 + (m - (k + 1)) = m by omega] at this
    exact this
  have e2 : dupM (allS be r ln m).2.1 m = true := dupM_t.mpr ⟨k, hk, e⟩
  unfold asmOk
  rw [e2]
  exact Bool.and_false _
theorem fu_true {b : Bool} : (b || true) = true := by cases b <;> rfl
theorem c_Asm_gives (G : Gt) {w0 w : Wt} {ad : Ix → Nat} {ln : Nat → Ln} {m : Nat} {r : Nat → Bool} {p : Nat → Int} {op fu : Bool} {gv : Nat → Bool} {at_ td tn : Nat → Int} {be : Bool} (h : vA w0 ad w ln m r p op fu gv at_ td tn) (hl : ∀ k, k < m → okL (ln k)) (hm : m ≤ 40) : Mt G y_Asm_gives w_Asm_gives 3 0 0 [.ref (ad (16, 0)), .int (i32 (b2i be))] ad w (fun rv ad' w' => rv = some (.int (i32 (b2i (asmOk be r ln m)))) ∧ ad' = ad ∧ ∃ (fu : Bool) (gv : Nat → Bool) (at_ td tn : Nat → Int), vA w0 ad w' ln m r ((if (asmOk be r ln m) = true then (allS be r ln m).1.2.2 else noP)) be fu gv at_ td tn ∧ ((asmOk be r ln m) = true → ∀ j, j < m → at_ j = (allS be r ln m).2.1 j ∧ td j = (allS be r ln m).2.2.1 j ∧ tn j = (allS be r ln m).2.2.2 j)) noT := by
  refine Mt.to [some (.ref (ad (16, 0))), some (.int (i32 (b2i be))), none, none] (fun K hk hR hin => ?_)
  have bad : ∀ (w : Wt) (p : Nat → Int) (gv : Nat → Bool) (at_ td tn : Nat → Int) (x y : Option Value), (asmOk be r ln m) = false → vA w0 ad w ln m r p be true gv at_ td tn → V G K 4 (QE G K (fun rv ad' w' => rv = some (.int (i32 (b2i (asmOk be r ln m)))) ∧ ad' = ad ∧ ∃ (fu : Bool) (gv : Nat → Bool) (at_ td tn : Nat → Int), vA w0 ad w' ln m r ((if (asmOk be r ln m) = true then (allS be r ln m).1.2.2 else noP)) be fu gv at_ td tn ∧ ((asmOk be r ln m) = true → ∀ j, j < m → at_ j = (allS be r ln m).2.1 j ∧ td j = (allS be r ln m).2.2.1 j ∧ tn j = (allS be r ln m).2.2.2 j)) noT 0 0) 0 0 84 [some (.ref (ad (16, 0))), some (.int (i32 (b2i be))), x, y] [] ad w := by
    intro w p gv at_ td tn x y hno h
    rw [if_neg (by rw [hno]; decide), hno]
    refine r_aload_n (i := 0) hk (dk_at D_Asm_gives 44 rfl) rfl rfl ?_
    refine r_get hk fl_Asm_35 (dk_at D_Asm_gives 45 rfl) ?_ (hw := h.a16)
    refine r_if_eqB (b := true) (t := 95) hk (dk_at D_Asm_gives 46 rfl) (by decide) (fun c_88 => ?_) (fun c_88 => ?_)
    · cases c_88
    refine r_aload_n (i := 0) hk (dk_at D_Asm_gives 47 rfl) rfl rfl ?_
    refine r_callVv hk hR m_Asm_forget s_Asm_forget ml_Asm_28 (dk_at D_Asm_gives 48 rfl) (c_Asm_forget G h.a16 h.a20) ?_ (i := (16, 0)) (hw := h.a16)
    refine r_gp (fun w => vA w0 ad w ln m r noP be true gv at_ td tn) h.pls (fun w h => ?_)
    refine r_aload_n (i := 0) hk (dk_at D_Asm_gives 49 rfl) rfl rfl ?_
    refine r_get hk fl_Asm_35 (dk_at D_Asm_gives 50 rfl) ?_ (hw := h.a16)
    refine r_if_neB (b := true) (t := 106) hk (dk_at D_Asm_gives 51 rfl) (by decide) (fun c_99 => ?_) (fun c_99 => ?_)
    rotate_left
    · cases c_99
    refine r_iconst hk (dk_at D_Asm_gives 54 rfl) ?_
    exact r_bret (b := false) hk (dk_at D_Asm_gives 55 rfl) ⟨rfl, rfl, _, _, _, _, _, h, fun z => by cases z⟩
  have loop : ∀ (n k : Nat) (w : Wt) (at_ td tn : Nat → Int) (yk : Int) (x : Option Value), yk = (k : Int) → k + n = m → (sq be ln m (s00 r ln m) k).1.2.1 = false → (∀ i, i < k → dupK (sq be ln m (s00 r ln m) k).2.1 i = false) → (∀ j, j < k → at_ j = (sq be ln m (s00 r ln m) k).2.1 j ∧ td j = (sq be ln m (s00 r ln m) k).2.2.1 j ∧ tn j = (sq be ln m (s00 r ln m) k).2.2.2 j) → vA w0 ad w ln m r ((sq be ln m (s00 r ln m) k).1.2.2) be false ((sq be ln m (s00 r ln m) k).1.1) at_ td tn → V G K 4 (QE G K (fun rv ad' w' => rv = some (.int (i32 (b2i (asmOk be r ln m)))) ∧ ad' = ad ∧ ∃ (fu : Bool) (gv : Nat → Bool) (at_ td tn : Nat → Int), vA w0 ad w' ln m r ((if (asmOk be r ln m) = true then (allS be r ln m).1.2.2 else noP)) be fu gv at_ td tn ∧ ((asmOk be r ln m) = true → ∀ j, j < m → at_ j = (allS be r ln m).2.1 j ∧ td j = (allS be r ln m).2.2.1 j ∧ tn j = (allS be r ln m).2.2.2 j)) noT 0 0) 0 0 7 [some (.ref (ad (16, 0))), some (.int (i32 (b2i be))), some (.int (i32 yk)), x] [] ad w := by
    intro n
    induction n with
    | zero =>
      intro k w at_ td tn yk x hy hkn hfu hdup hagr h
      obtain rfl : k = m := by omega
      have hok : asmOk be r ln k = true := by
        have e2 : dupM (allS be r ln k).2.1 k = false := by
          cases e : dupM (allS be r ln k).2.1 k with
          | false => rfl
          | true =>
            obtain ⟨i, hi, e3⟩ := dupM_t.mp e
            exact absurd e3 (by rw [show dupK (allS be r ln k).2.1 i = false from hdup i hi]; decide)
        unfold asmOk
        rw [e2, show (allS be r ln k).1.2.1 = false from hfu]; rfl
      rw [if_pos hok, hok]
      refine r_iload_n (i := 2) hk (dk_at D_Asm_gives 5 rfl) rfl rfl ?_
      refine r_aload_n (i := 0) hk (dk_at D_Asm_gives 6 rfl) rfl rfl ?_
      refine r_get hk fl_Asm_38 (dk_at D_Asm_gives 7 rfl) ?_ (hw := h.a16)
      refine r_icmp_ge (t := 84) hk (dk_at D_Asm_gives 8 rfl) (by decide) (by omega) (by omega) (fun c_12 => ?_) (fun c_12 => ?_)
      · refine r_aload_n (i := 0) hk (dk_at D_Asm_gives 44 rfl) rfl rfl ?_
        refine r_get hk fl_Asm_35 (dk_at D_Asm_gives 45 rfl) ?_ (hw := h.a16)
        refine r_if_eqB (b := false) (t := 95) hk (dk_at D_Asm_gives 46 rfl) (by decide) (fun c_88 => ?_) (fun c_88 => ?_)
        rotate_left
        · cases c_88
        refine r_aload_n (i := 0) hk (dk_at D_Asm_gives 49 rfl) rfl rfl ?_
        refine r_get hk fl_Asm_35 (dk_at D_Asm_gives 50 rfl) ?_ (hw := h.a16)
        refine r_if_neB (b := false) (t := 106) hk (dk_at D_Asm_gives 51 rfl) (by decide) (fun c_99 => ?_) (fun c_99 => ?_)
        · cases c_99
        refine r_iconst hk (dk_at D_Asm_gives 52 rfl) ?_
        refine r_goto (t := 107) hk (dk_at D_Asm_gives 53 rfl) (by decide) ?_
        exact r_bret (b := true) hk (dk_at D_Asm_gives 55 rfl) ⟨rfl, rfl, _, _, _, _, _, h, fun _ => hagr⟩
      · exact absurd c_12 (by omega)
    | succ n ih =>
      intro k w at_ td tn yk x hy hkn hfu hdup hagr h
      subst hy
      have hkm : k < m := by omega
      have hq := sq_ok (op := be) (ln := ln) (m := m) (s0 := s00 r ln m) noP_ok k (fun j hj => hl j (by omega))
      have eL : lcR be ln k tn (sq be ln m (s00 r ln m) k).1 = lcR be ln k (sq be ln m (s00 r ln m) k).2.2.2 (sq be ln m (s00 r ln m) k).1 := lcR_ext (fun h0 => (hagr (k - 1) (by omega)).2.2)
      have hlr := lcR_r (op := be) (k := k) (tn := (sq be ln m (s00 r ln m) k).2.2.2) hq.1 (hl k hkm) (fun h0 => hq.2.2.2 (k - 1) (by omega))
      have eX : (sq be ln m (s00 r ln m) k).1 = ((sq be ln m (s00 r ln m) k).1.1, false, (sq be ln m (s00 r ln m) k).1.2.2) := by rw [← hfu]
      have hatx : ∀ j, j ≤ k → fu_ at_ k (lcR be ln k (sq be ln m (s00 r ln m) k).2.2.2 (sq be ln m (s00 r ln m) k).1).2 j = (sq be ln m (s00 r ln m) (k + 1)).2.1 j := by
        intro j hj
        show _ = fu_ (sq be ln m (s00 r ln m) k).2.1 k _ j
        by_cases e : j = k
        · rw [e, fu_s, fu_s]
        · rw [fu_n e, fu_n e]; exact (hagr j (by omega)).1
      have hatr : ∀ j, j ≤ k → 0 ≤ fu_ at_ k (lcR be ln k (sq be ln m (s00 r ln m) k).2.2.2 (sq be ln m (s00 r ln m) k).1).2 j ∧ fu_ at_ k (lcR be ln k (sq be ln m (s00 r ln m) k).2.2.2 (sq be ln m (s00 r ln m) k).1).2 j < 200 := by
        intro j hj
        by_cases e : j = k
        · rw [e, fu_s]; exact hlr.1
        · rw [fu_n e, (hagr j (by omega)).1]; exact hq.2.1 j (by omega)
      generalize hRL : lcR be ln k (sq be ln m (s00 r ln m) k).2.2.2 (sq be ln m (s00 r ln m) k).1 = R at hlr hatx hatr eL
      refine r_iload_n (i := 2) hk (dk_at D_Asm_gives 5 rfl) rfl rfl ?_
      refine r_aload_n (i := 0) hk (dk_at D_Asm_gives 6 rfl) rfl rfl ?_
      refine r_get hk fl_Asm_38 (dk_at D_Asm_gives 7 rfl) ?_ (hw := h.a16)
      refine r_icmp_ge (t := 84) hk (dk_at D_Asm_gives 8 rfl) (by decide) (by omega) (by omega) (fun c_12 => ?_) (fun c_12 => ?_)
      · exact absurd c_12 (by omega)
      · refine r_aload_n (i := 0) hk (dk_at D_Asm_gives 9 rfl) rfl rfl ?_
        refine r_get hk fl_Asm_35 (dk_at D_Asm_gives 10 rfl) ?_ (hw := h.a16)
        refine r_if_neB (b := false) (t := 84) hk (dk_at D_Asm_gives 11 rfl) (by decide) (fun c_19 => ?_) (fun c_19 => ?_)
        · cases c_19
        refine r_aload_n (i := 0) hk (dk_at D_Asm_gives 12 rfl) rfl rfl ?_
        refine r_iload_n (i := 2) hk (dk_at D_Asm_gives 13 rfl) rfl rfl ?_
        refine r_callVqv hk hR m_Asm_locate s_Asm_locate ml_Asm_95 (dk_at D_Asm_gives 14 rfl) (c_Asm_locate G h hkm hm hl hq.1) (fun w h => ?_) (i := (16, 0)) (hw := h.a16)
        rw [← eX, eL] at h
        generalize hat9 : fu_ at_ k R.2 = a9 at h hatx hatr
        have mid : ∀ (w : Wt) (fu : Bool) (y : Option Value), fu = (R.1.2.1 || dupK a9 k) → vA w0 ad w ln m r R.1.2.2 be fu R.1.1 a9 td tn → V G K 4 (QE G K (fun rv ad' w' => rv = some (.int (i32 (b2i (asmOk be r ln m)))) ∧ ad' = ad ∧ ∃ (fu : Bool) (gv : Nat → Bool) (at_ td tn : Nat → Int), vA w0 ad w' ln m r ((if (asmOk be r ln m) = true then (allS be r ln m).1.2.2 else noP)) be fu gv at_ td tn ∧ ((asmOk be r ln m) = true → ∀ j, j < m → at_ j = (allS be r ln m).2.1 j ∧ td j = (allS be r ln m).2.2.1 j ∧ tn j = (allS be r ln m).2.2.2 j)) noT 0 0) 0 0 66 [some (.ref (ad (16, 0))), some (.int (i32 (b2i be))), some (.int (i32 (k : Nat))), y] [] ad w := by
          intro w fu y hfu9 h
          have back : ∀ (w : Wt) (p : Nat → Int) (gv : Nat → Bool) (td tn : Nat → Int), (asmOk be r ln m) = false → vA w0 ad w ln m r p be true gv a9 td tn → V G K 4 (QE G K (fun rv ad' w' => rv = some (.int (i32 (b2i (asmOk be r ln m)))) ∧ ad' = ad ∧ ∃ (fu : Bool) (gv : Nat → Bool) (at_ td tn : Nat → Int), vA w0 ad w' ln m r ((if (asmOk be r ln m) = true then (allS be r ln m).1.2.2 else noP)) be fu gv at_ td tn ∧ ((asmOk be r ln m) = true → ∀ j, j < m → at_ j = (allS be r ln m).2.1 j ∧ td j = (allS be r ln m).2.2.1 j ∧ tn j = (allS be r ln m).2.2.2 j)) noT 0 0) 0 0 78 [some (.ref (ad (16, 0))), some (.int (i32 (b2i be))), some (.int (i32 (k : Nat))), y] [] ad w := by
            intro w p gv td tn hno h
            refine r_iinc (i := 2) (ls' := [_, _, _, _]) hk (dk_at D_Asm_gives 42 rfl) rfl rfl rfl rfl ?_
            refine r_goto (t := 7) hk (dk_at D_Asm_gives 43 rfl) (by decide) ?_
            refine r_iload_n (i := 2) hk (dk_at D_Asm_gives 5 rfl) rfl rfl ?_
            refine r_aload_n (i := 0) hk (dk_at D_Asm_gives 6 rfl) rfl rfl ?_
            refine r_get hk fl_Asm_38 (dk_at D_Asm_gives 7 rfl) ?_ (hw := h.a16)
            refine r_icmp_ge (t := 84) hk (dk_at D_Asm_gives 8 rfl) (by decide) (by omega) (by omega) (fun c_12 => ?_) (fun c_12 => ?_)
            · exact bad w p gv a9 td tn _ _ hno h
            · refine r_aload_n (i := 0) hk (dk_at D_Asm_gives 9 rfl) rfl rfl ?_
              refine r_get hk fl_Asm_35 (dk_at D_Asm_gives 10 rfl) ?_ (hw := h.a16)
              refine r_if_neB (b := true) (t := 84) hk (dk_at D_Asm_gives 11 rfl) (by decide) (fun c_19 => ?_) (fun c_19 => ?_)
              rotate_left
              · cases c_19
              exact bad w p gv a9 td tn _ _ hno h
          refine r_aload_n (i := 0) hk (dk_at D_Asm_gives 36 rfl) rfl rfl ?_
          refine r_get hk fl_Asm_35 (dk_at D_Asm_gives 37 rfl) ?_ (hw := h.a16)
          refine r_if_neB (t := 78) hk (dk_at D_Asm_gives 38 rfl) (by decide) (fun c_70 => ?_) (fun c_70 => ?_)
          · subst c_70
            refine back w _ _ _ _ ?_ h
            rw [eq_comm, Bool.or_eq_true] at hfu9
            rcases hfu9 with e | e
            · exact asm_full (k := k + 1) (by omega) (oneL_m (by rw [hRL]; exact e))
            · exact asm_dup hkm (by rw [← e]; exact dupK_ext (fun j hj => (hatx j hj).symm))
          · subst c_70
            rw [eq_comm, Bool.or_eq_false_iff] at hfu9
            have hn1 : dupK (sq be ln m (s00 r ln m) (k + 1)).2.1 k = false := by rw [← hfu9.2]; exact dupK_ext (fun j hj => (hatx j hj).symm)
            have ha9 : a9 k = R.2 := by rw [← hat9, fu_s]
            have eR1 : R.1 = (R.1.1, false, R.1.2.2) := by rw [← hfu9.1]
            refine r_aload_n (i := 0) hk (dk_at D_Asm_gives 39 rfl) rfl rfl ?_
            refine r_iload_n (i := 2) hk (dk_at D_Asm_gives 40 rfl) rfl rfl ?_
            refine r_callVqv hk hR m_Asm_complete s_Asm_complete ml_Asm_98 (dk_at D_Asm_gives 41 rfl) (c_Asm_complete G h hkm hm hl hlr.2 (hatr k (Nat.le_refl _))) (fun w h => ?_) (i := (16, 0)) (hw := h.a16)
            rw [← eR1, ha9] at h
            have eS : sq be ln m (s00 r ln m) (k + 1) = ((cmN be ln m k (cmB (ln k) R.2 (cmD be (ln k) R.2 R.1).2) (cmD be (ln k) R.2 R.1).1).1, fu_ (sq be ln m (s00 r ln m) k).2.1 k R.2, fu_ (sq be ln m (s00 r ln m) k).2.2.1 k (cmD be (ln k) R.2 R.1).2, fu_ (sq be ln m (s00 r ln m) k).2.2.2 k (cmN be ln m k (cmB (ln k) R.2 (cmD be (ln k) R.2 R.1).2) (cmD be (ln k) R.2 R.1).1).2) := by
              show oneL be ln m k (sq be ln m (s00 r ln m) k) = _
              unfold oneL
              rw [hRL]
            generalize cmN be ln m k (cmB (ln k) R.2 (cmD be (ln k) R.2 R.1).2) (cmD be (ln k) R.2 R.1).1 = N at h eS
            generalize (cmD be (ln k) R.2 R.1).2 = D at h eS
            cases hf9 : N.1.2.1 with
            | true =>
              rw [hf9] at h
              exact back w _ _ _ _ (asm_full (k := k + 1) (by omega) (by rw [eS]; exact hf9)) h
            | false =>
            rw [hf9] at h
            refine r_iinc (i := 2) (ls' := [_, _, _, _]) hk (dk_at D_Asm_gives 42 rfl) rfl rfl rfl rfl ?_
            refine r_goto (t := 7) hk (dk_at D_Asm_gives 43 rfl) (by decide) ?_
            refine ih (k + 1) w _ _ _ _ _ (by omega) (by omega) (by rw [eS]; exact hf9) (fun i hi => ?_) (fun j hj => ?_) (by rw [eS]; exact h)
            · by_cases e : i = k
              · rw [e]; exact hn1
              · rw [← hdup i (by omega)]
                exact dupK_ext (fun j hj => sq_at (by omega) 1)
            · refine ⟨hatx j (by omega), ?_, ?_⟩
              · rw [eS]
                show _ = fu_ _ k D j
                by_cases e : j = k
                · rw [e, fu_s, fu_s]
                · rw [fu_n e, fu_n e]; exact (hagr j (by omega)).2.1
              · rw [eS]
                show _ = fu_ _ k N.2 j
                by_cases e : j = k
                · rw [e, fu_s, fu_s]
                · rw [fu_n e, fu_n e]; exact (hagr j (by omega)).2.2
        refine r_iconst hk (dk_at D_Asm_gives 15 rfl) ?_
        refine r_istore_n (i := 3) (ls' := [_, _, _, _]) hk (dk_at D_Asm_gives 16 rfl) rfl rfl rfl rfl ?_
        have lpj : ∀ j : Nat, j ≤ k → ∀ (w : Wt) (yj : Int) (fu : Bool), yj = (j : Int) → fu = (R.1.2.1 || dupJ a9 k j) → vA w0 ad w ln m r R.1.2.2 be fu R.1.1 a9 td tn → V G K 4 (QE G K (fun rv ad' w' => rv = some (.int (i32 (b2i (asmOk be r ln m)))) ∧ ad' = ad ∧ ∃ (fu : Bool) (gv : Nat → Bool) (at_ td tn : Nat → Int), vA w0 ad w' ln m r ((if (asmOk be r ln m) = true then (allS be r ln m).1.2.2 else noP)) be fu gv at_ td tn ∧ ((asmOk be r ln m) = true → ∀ j, j < m → at_ j = (allS be r ln m).2.1 j ∧ td j = (allS be r ln m).2.2.1 j ∧ tn j = (allS be r ln m).2.2.2 j)) noT 0 0) 0 0 29 [some (.ref (ad (16, 0))), some (.int (i32 (b2i be))), some (.int (i32 (k : Nat))), some (.int (i32 yj))] [] ad w := by
          refine nup k (fun j hj ihj w yj fu hyj hfj h => ?_)
          subst hyj
          refine r_iload_n (i := 3) hk (dk_at D_Asm_gives 17 rfl) rfl rfl ?_
          refine r_iload_n (i := 2) hk (dk_at D_Asm_gives 18 rfl) rfl rfl ?_
          refine r_icmp_ge (t := 66) hk (dk_at D_Asm_gives 19 rfl) (by decide) (by omega) (by omega) (fun c_31 => ?_) (fun c_31 => ?_)
          · have ejk : j = k := by omega
            rw [ejk] at hfj
            exact mid w fu _ hfj h
          · have hjk : j < k := by omega
            obtain ⟨f, h17, hf⟩ := h.a17
            have h27 := h.a27 hkm
            have h27j := h.a27 (k := j) (by omega)
            have rj := hatr j (by omega)
            have rk := hatr k (Nat.le_refl _)
            refine r_aload_n (i := 0) hk (dk_at D_Asm_gives 20 rfl) rfl rfl ?_
            refine r_get hk fl_Asm_11 (dk_at D_Asm_gives 21 rfl) ?_ (hw := h.a16)
            refine r_iload_n (i := 3) hk (dk_at D_Asm_gives 22 rfl) rfl rfl ?_
            refine r_aaload (ix := j) hk (dk_at D_Asm_gives 23 rfl) ?_ (hw := h17)
            refine r_top (hf j (by omega)) ?_
            refine r_getN hk fl_Asm_70 (dk_at D_Asm_gives 24 rfl) ?_ (hw := h27j)
            refine r_aload_n (i := 0) hk (dk_at D_Asm_gives 25 rfl) rfl rfl ?_
            refine r_get hk fl_Asm_11 (dk_at D_Asm_gives 26 rfl) ?_ (hw := h.a16)
            refine r_iload_n (i := 2) hk (dk_at D_Asm_gives 27 rfl) rfl rfl ?_
            refine r_aaload (ix := k) hk (dk_at D_Asm_gives 28 rfl) ?_ (hw := h17)
            refine r_top (hf k hkm) ?_
            refine r_getN hk fl_Asm_70 (dk_at D_Asm_gives 29 rfl) ?_ (hw := h27)
            refine r_icmp_ne (t := 60) hk (dk_at D_Asm_gives 30 rfl) (by decide) (by omega) (by omega) (fun c_52 => ?_) (fun c_52 => ?_)
            · refine r_iinc (i := 3) (ls' := [_, _, _, _]) hk (dk_at D_Asm_gives 34 rfl) rfl rfl rfl rfl ?_
              refine r_goto (t := 29) hk (dk_at D_Asm_gives 35 rfl) (by decide) ?_
              exact ihj hjk w _ fu (by omega) (by rw [dupJ_s, decide_eq_false c_52, Bool.or_false]; exact hfj) h
            · refine r_aload_n (i := 0) hk (dk_at D_Asm_gives 31 rfl) rfl rfl ?_
              refine r_iconst hk (dk_at D_Asm_gives 32 rfl) ?_
              refine r_put (fs' := [_, _, _, _, _, _, _]) hk fl_Asm_35 ft_Asm_6 (dk_at D_Asm_gives 33 rfl) ?_ (hn := rfl) (hfit := rfl) (hw := h.a16)
              refine r_iinc (i := 3) (ls' := [_, _, _, _]) hk (dk_at D_Asm_gives 34 rfl) rfl rfl rfl rfl ?_
              refine r_goto (t := 29) hk (dk_at D_Asm_gives 35 rfl) (by decide) ?_
              exact ihj hjk _ _ true (by omega) (by rw [dupJ_s, decide_eq_true c_52, fu_true, fu_true]) (h.obj (op' := be) (fu' := true))
        exact lpj 0 (Nat.zero_le _) w _ R.1.2.1 rfl (by rw [show dupJ a9 k 0 = false from rfl, Bool.or_false]) h
  refine r_aload_n (i := 0) hk (dk_at D_Asm_gives 0 rfl) rfl rfl ?_
  refine r_iload_n (i := 1) hk (dk_at D_Asm_gives 1 rfl) rfl rfl ?_
  refine r_callVqv hk hR m_Asm_begin s_Asm_begin ml_Asm_91 (dk_at D_Asm_gives 2 rfl) (c_Asm_begin G h hl hm) (fun w h => ?_) (i := (16, 0)) (hw := h.a16)
  refine r_iconst hk (dk_at D_Asm_gives 3 rfl) ?_
  refine r_istore_n (i := 2) (ls' := [_, _, _, _]) hk (dk_at D_Asm_gives 4 rfl) rfl rfl rfl rfl ?_
  exact loop m 0 w _ _ _ _ _ rfl (by omega) rfl (fun i hi => by omega) (fun j hj => by omega) h
