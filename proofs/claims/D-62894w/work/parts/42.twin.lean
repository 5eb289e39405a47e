/-! the twin: branches, cards, doWrite -/
theorem kn_44 : ∀ n, n < 100 → (44 ≤ n ∧ n ≤ 47) ∨ (90 ≤ n ∧ n ≤ 99) → kn n = some 12 := by decide
theorem A_hl {A : Nat} : A ≠ 0 ↔ (A / 10 ^ 10 ≠ 0 ∨ A % 10 ^ 10 ≠ 0) := by omega
theorem c_Mod_branches (G : Gt) {w0 w : Wt} {ad : Ix → Nat} {cd : Int} {dv : Nat} {mn : Bool} {dm : Bool} {ov : Bool} {nx : Nat} {fl : Int} {t : Nat} {qn : Nat} {on : Nat} {m : Nat} {fu : Bool} {c : Nat → Nat → Nat} {g : Nat → Bool} {q : Nat → Nat × Bool} {o : Nat → Nat × Bool} {ln : Nat → Ln} {r : Nat → Bool} {p : Nat → Int} {hd : Nat → Bool} {at_ : Nat → Int} {wr : Nat → Int} {A : Nat} {op : Nat} (h : TX w0 ad w cd (((A / 10 ^ 10 : Nat) : Int)) (((A % 10 ^ 10 : Nat) : Int)) (((dv : Nat) : Int)) mn dm ov (((nx : Nat) : Int)) fl t qn on m fu c g q o ln r p hd at_ wr) (hA : A < 10 ^ 20) (hdv : dv < 10 ^ 10) (hop : op < 100) : Mt G y_Mod_branches w_Mod_branches 0 0 0 [.ref (ad (50, 0)), .int (i32 op)] ad w (ex (some (.int (i32 (b2i (if kn op = some 12 then brB op A mn ov dv else false))))) ad w) noT := by
  refine Mt.to [some (.ref (ad (50, 0))), some (.int (i32 op)), none, none, none] (fun K hk hR hin => ?_)
  have hob := h.ob_
  have hU : A / 10 ^ 10 < 10 ^ 10 := by omega
  have hL : A % 10 ^ 10 < 10 ^ 10 := by omega
  have aHL := A_hl (A := A)
  generalize hUU : A / 10 ^ 10 = UU at hU aHL hob
  generalize hLL : A % 10 ^ 10 = LL at hL aHL hob
  refine r_iload_n (i := 1) hk (dk_at D_Mod_branches 0 rfl) rfl rfl ?_
  by_cases hi : 44 ≤ op ∧ op ≤ 47
  · have e12 := kn_44 op hop (Or.inl hi)
    rw [if_pos e12]
    by_cases e44 : op = 44
    · subst e44
      have eB : brB 44 A mn ov dv = decide (UU ≠ 0) := by rw [← hUU]; exact if_pos rfl
      rw [eB]
      refine r_tableIn (t := 32) (off := 31) hk (dk_at D_Mod_branches 1 rfl) (by omega) (by omega) (by omega) rfl (by decide) ?_
      refine r_aload_n (i := 0) hk (dk_at D_Mod_branches 2 rfl) rfl rfl ?_
      refine r_get hk fl_Mod_118 (dk_at D_Mod_branches 3 rfl) ?_ (hw := hob)
      refine r_lconst (z := 0) hk (dk_at D_Mod_branches 4 rfl) rfl ?_
      refine r_lc_eq (t := 45) hk (dk_at D_Mod_branches 5 rfl) (dk_at D_Mod_branches 6 rfl) (by decide) (by omega) (by omega) (fun c_38 => ?_) (fun c_38 => ?_)
      · rw [decide_eq_false (show ¬ UU ≠ 0 by omega)]
        refine r_iconst hk (dk_at D_Mod_branches 9 rfl) ?_
        first | exact r_bret (b := true) hk (dk_at D_Mod_branches 10 rfl) ex.rf | exact r_bret (b := false) hk (dk_at D_Mod_branches 10 rfl) ex.rf
      · rw [decide_eq_true (show UU ≠ 0 by omega)]
        refine r_iconst hk (dk_at D_Mod_branches 7 rfl) ?_
        refine r_goto (t := 46) hk (dk_at D_Mod_branches 8 rfl) (by decide) ?_
        first | exact r_bret (b := true) hk (dk_at D_Mod_branches 10 rfl) ex.rf | exact r_bret (b := false) hk (dk_at D_Mod_branches 10 rfl) ex.rf
    by_cases e45 : op = 45
    · subst e45
      have eB : brB 45 A mn ov dv = decide (A ≠ 0) := (if_neg (by decide)).trans (if_pos rfl)
      rw [eB]
      refine r_tableIn (t := 47) (off := 46) hk (dk_at D_Mod_branches 1 rfl) (by omega) (by omega) (by omega) rfl (by decide) ?_
      refine r_aload_n (i := 0) hk (dk_at D_Mod_branches 11 rfl) rfl rfl ?_
      refine r_get hk fl_Mod_118 (dk_at D_Mod_branches 12 rfl) ?_ (hw := hob)
      refine r_lconst (z := 0) hk (dk_at D_Mod_branches 13 rfl) rfl ?_
      refine r_lc_ne (t := 65) hk (dk_at D_Mod_branches 14 rfl) (dk_at D_Mod_branches 15 rfl) (by decide) (by omega) (by omega) (fun c_53 => ?_) (fun c_53 => ?_)
      · rw [decide_eq_true (show A ≠ 0 by omega)]
        refine r_iconst hk (dk_at D_Mod_branches 21 rfl) ?_
        refine r_goto (t := 70) hk (dk_at D_Mod_branches 22 rfl) (by decide) ?_
        first | exact r_bret (b := true) hk (dk_at D_Mod_branches 24 rfl) ex.rf | exact r_bret (b := false) hk (dk_at D_Mod_branches 24 rfl) ex.rf
      · refine r_aload_n (i := 0) hk (dk_at D_Mod_branches 16 rfl) rfl rfl ?_
        refine r_get hk fl_Mod_115 (dk_at D_Mod_branches 17 rfl) ?_ (hw := hob)
        refine r_lconst (z := 0) hk (dk_at D_Mod_branches 18 rfl) rfl ?_
        refine r_lc_eq (t := 69) hk (dk_at D_Mod_branches 19 rfl) (dk_at D_Mod_branches 20 rfl) (by decide) (by omega) (by omega) (fun c_62 => ?_) (fun c_62 => ?_)
        · rw [decide_eq_false (show ¬ A ≠ 0 by omega)]
          refine r_iconst hk (dk_at D_Mod_branches 23 rfl) ?_
          first | exact r_bret (b := true) hk (dk_at D_Mod_branches 24 rfl) ex.rf | exact r_bret (b := false) hk (dk_at D_Mod_branches 24 rfl) ex.rf
        · rw [decide_eq_true (show A ≠ 0 by omega)]
          refine r_iconst hk (dk_at D_Mod_branches 21 rfl) ?_
          refine r_goto (t := 70) hk (dk_at D_Mod_branches 22 rfl) (by decide) ?_
          first | exact r_bret (b := true) hk (dk_at D_Mod_branches 24 rfl) ex.rf | exact r_bret (b := false) hk (dk_at D_Mod_branches 24 rfl) ex.rf
    by_cases e46 : op = 46
    · subst e46
      have eB : brB 46 A mn ov dv = mn := (if_neg (by decide)).trans ((if_neg (by decide)).trans (if_pos rfl))
      rw [eB]
      refine r_tableIn (t := 71) (off := 70) hk (dk_at D_Mod_branches 1 rfl) (by omega) (by omega) (by omega) rfl (by decide) ?_
      refine r_aload_n (i := 0) hk (dk_at D_Mod_branches 25 rfl) rfl rfl ?_
      refine r_get hk fl_Mod_111 (dk_at D_Mod_branches 26 rfl) ?_ (hw := hob)
      exact r_bret (b := mn) hk (dk_at D_Mod_branches 27 rfl) ex.rf
    obtain rfl : op = 47 := by omega
    have eB : brB 47 A mn ov dv = ov := (if_neg (by decide)).trans ((if_neg (by decide)).trans ((if_neg (by decide)).trans (if_pos rfl)))
    rw [eB]
    refine r_tableIn (t := 76) (off := 75) hk (dk_at D_Mod_branches 1 rfl) (by omega) (by omega) (by omega) rfl (by decide) ?_
    refine r_aload_n (i := 0) hk (dk_at D_Mod_branches 28 rfl) rfl rfl ?_
    refine r_get hk fl_Mod_121 (dk_at D_Mod_branches 29 rfl) ?_ (hw := hob)
    exact r_bret (b := ov) hk (dk_at D_Mod_branches 30 rfl) ex.rf
  · refine r_tableOut (t := 81) hk (dk_at D_Mod_branches 1 rfl) (by omega) (by omega) (by decide) ?_
    have fin : ∀ (u z : Int) (k : Nat), k = op - 90 → u = ((dv / 10 ^ k : Nat) : Int) → V G K 5 (QE G K (ex (some (.int (i32 (b2i (if kn op = some 12 then brB op A mn ov dv else false))))) ad w) noT 0 0) 0 0 108 [some (.ref (ad (50, 0))), some (.int (i32 op)), some (.long (i64 u)), none, some (.int (i32 z))] [] ad w := by
      intro u z k hk9 hu
      have hle : dv / 10 ^ k ≤ dv := Nat.div_le_self _ _
      have hdg : u % 10 = ((dgt dv k : Nat) : Int) := by
        show _ = ((dv / 10 ^ k % 10 : Nat) : Int)
        omega
      have hdl := dgt_lt dv k
      generalize dv / 10 ^ k = V9 at hu hle
      subst hu
      refine r_iload_n (i := 1) hk (dk_at D_Mod_branches 45 rfl) rfl rfl ?_
      refine r_bipush hk (dk_at D_Mod_branches 46 rfl) (by decide) ?_
      refine r_icmp_le (t := 130) hk (dk_at D_Mod_branches 47 rfl) (by decide) (by omega) (by omega) (fun c_111 => ?_) (fun c_111 => ?_)
      · rw [if_neg (fun z => by have := kn_12 z; omega)]
        refine r_iconst hk (dk_at D_Mod_branches 56 rfl) ?_
        first | exact r_bret (b := true) hk (dk_at D_Mod_branches 57 rfl) ex.rf | exact r_bret (b := false) hk (dk_at D_Mod_branches 57 rfl) ex.rf
      · refine r_lload_n (i := 2) hk (dk_at D_Mod_branches 48 rfl) rfl rfl ?_
        refine r_ldc2 hk kl_Mod_67 (dk_at D_Mod_branches 49 rfl) ?_
        refine r_lrem hk (dk_at D_Mod_branches 50 rfl) (by omega) (by omega) ?_
        refine r_topl (x' := ((dgt dv k : Nat) : Int)) hdg ?_
        have e12 := kn_44 op hop (Or.inr (by omega))
        rw [if_pos e12]
        have eB : brB op A mn ov dv = decide (dgt dv k = 8) := by unfold brB; rw [if_neg (by omega), if_neg (by omega), if_neg (by omega), if_neg (by omega), hk9]
        rw [eB]
        refine r_ldc2 hk kl_Mod_168 (dk_at D_Mod_branches 51 rfl) ?_
        refine r_lc_ne (t := 130) hk (dk_at D_Mod_branches 52 rfl) (dk_at D_Mod_branches 53 rfl) (by decide) (by omega) (by omega) (fun c_123 => ?_) (fun c_123 => ?_)
        · rw [decide_eq_false (show ¬ dgt dv k = 8 by omega)]
          refine r_iconst hk (dk_at D_Mod_branches 56 rfl) ?_
          first | exact r_bret (b := true) hk (dk_at D_Mod_branches 57 rfl) ex.rf | exact r_bret (b := false) hk (dk_at D_Mod_branches 57 rfl) ex.rf
        · rw [decide_eq_true (show dgt dv k = 8 by omega)]
          refine r_iconst hk (dk_at D_Mod_branches 54 rfl) ?_
          refine r_goto (t := 131) hk (dk_at D_Mod_branches 55 rfl) (by decide) ?_
          first | exact r_bret (b := true) hk (dk_at D_Mod_branches 57 rfl) ex.rf | exact r_bret (b := false) hk (dk_at D_Mod_branches 57 rfl) ex.rf
    have loop : ∀ k : Nat, k ≤ op - 90 → ∀ (u z : Int), u = ((dv / 10 ^ k : Nat) : Int) → z = 90 + (k : Int) → V G K 5 (QE G K (ex (some (.int (i32 (b2i (if kn op = some 12 then brB op A mn ov dv else false))))) ad w) noT 0 0) 0 0 90 [some (.ref (ad (50, 0))), some (.int (i32 op)), some (.long (i64 u)), none, some (.int (i32 z))] [] ad w := by
      refine nup (op - 90) (fun k hk2 ih u z hu hz => ?_)
      have hle : dv / 10 ^ k ≤ dv := Nat.div_le_self _ _
      have hpos : (0 : Int) ≤ ((dv / 10 ^ k : Nat) : Int) := Int.natCast_nonneg _
      have hq := dgt_step dv k
      have hdl := dgt_lt dv k
      refine r_iload (i := 4) hk (dk_at D_Mod_branches 36 rfl) rfl ?_
      refine r_iload_n (i := 1) hk (dk_at D_Mod_branches 37 rfl) rfl rfl ?_
      refine r_icmp_ge (t := 108) hk (dk_at D_Mod_branches 38 rfl) (by decide) (by omega) (by omega) (fun c_93 => ?_) (fun c_93 => ?_)
      · exact fin _ _ k (by omega) hu
      · refine r_lload_n (i := 2) hk (dk_at D_Mod_branches 39 rfl) rfl rfl ?_
        refine r_ldc2 hk kl_Mod_67 (dk_at D_Mod_branches 40 rfl) ?_
        refine r_ldiv hk (dk_at D_Mod_branches 41 rfl) (by omega) (by omega) ?_
        refine r_lstore_n (i := 2) (ls' := [_, _, _, _, _]) hk (dk_at D_Mod_branches 42 rfl) rfl rfl rfl rfl ?_
        refine r_iinc (i := 4) (ls' := [_, _, _, _, _]) hk (dk_at D_Mod_branches 43 rfl) rfl rfl rfl rfl ?_
        refine r_goto (t := 90) hk (dk_at D_Mod_branches 44 rfl) (by decide) ?_
        exact ih (by omega) _ _ (by omega) (by omega)
    refine r_aload_n (i := 0) hk (dk_at D_Mod_branches 31 rfl) rfl rfl ?_
    refine r_get hk fl_Mod_140 (dk_at D_Mod_branches 32 rfl) ?_ (hw := hob)
    refine r_lstore_n (i := 2) (ls' := [_, _, _, _, _]) hk (dk_at D_Mod_branches 33 rfl) rfl rfl rfl rfl ?_
    refine r_bipush hk (dk_at D_Mod_branches 34 rfl) (by decide) ?_
    refine r_istore (i := 4) (ls' := [_, _, _, _, _]) hk (dk_at D_Mod_branches 35 rfl) rfl rfl rfl ?_
    exact loop 0 (Nat.zero_le _) _ _ (by rw [dgt_0]) rfl
