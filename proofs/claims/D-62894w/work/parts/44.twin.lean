/-! the twin: a card is read -/
theorem c_Mod_doWriteC (G : Gt) {w0 w : Wt} {ad : Ix → Nat} {cd : Int} {dv : Nat} {mn : Bool} {dm : Bool} {ov : Bool} {nx : Nat} {fl : Int} {t : Nat} {qn : Nat} {on : Nat} {m : Nat} {fu : Bool} {c : Nat → Nat → Nat} {g : Nat → Bool} {q : Nat → Nat × Bool} {o : Nat → Nat × Bool} {ln : Nat → Ln} {r : Nat → Bool} {p : Nat → Int} {hd : Nat → Bool} {at_ : Nat → Int} {wr : Nat → Int} {A : Nat} {a : Nat} (h : TX w0 ad w cd (((A / 10 ^ 10 : Nat) : Int)) (((A % 10 ^ 10 : Nat) : Int)) (((dv : Nat) : Int)) mn dm ov (((nx : Nat) : Int)) fl t qn on m fu c g q o ln r p hd at_ wr) (hq : ∀ k, (q k).1 < 10 ^ 10) (hqn : qn ≤ 20) (ha : a < 200) : Mt G y_Mod_doWrite w_Mod_doWrite 1 0 0 [.ref (ad (50, 0)), .int (i32 70), .int (i32 a), .int (i32 (nx : Nat))] ad w (fun rv ad' w' => ad' = ad ∧ ((qn = 0 ∧ rv = some (.int (i32 (b2i false))) ∧ TX w0 ad w' cd (((A / 10 ^ 10 : Nat) : Int)) (((A % 10 ^ 10 : Nat) : Int)) (((dv : Nat) : Int)) mn dm ov (((nx : Nat) : Int)) 4 t qn on m fu c g q o ln r p hd at_ wr) ∨ (qn ≠ 0 ∧ rv = some (.int (i32 (b2i true))) ∧ TX w0 ad w' cd (((A / 10 ^ 10 : Nat) : Int)) (((A % 10 ^ 10 : Nat) : Int)) (((dv : Nat) : Int)) mn dm ov (((nx : Nat) : Int)) fl (t + 10) (qn - 1) on m fu (fu_ c a (cdv (q 0).1)) (fu_ g a (q 0).2) (fun k => q (k + 1)) o ln r p hd at_ wr))) noT := by
  refine Mt.to [some (.ref (ad (50, 0))), some (.int (i32 70)), some (.int (i32 a)), some (.int (i32 (nx : Nat))), none] (fun K hk hR hin => ?_)
  have hob := h.ob_
  refine r_iload_n (i := 1) hk (dk_at D_Mod_doWrite 0 rfl) rfl rfl ?_
  refine r_bipush hk (dk_at D_Mod_doWrite 1 rfl) (by decide) ?_
  refine r_icmp_ne (t := 111) hk (dk_at D_Mod_doWrite 2 rfl) (by decide) (by omega) (by omega) (fun c_3 => ?_) (fun c_3 => ?_)
  · exact absurd rfl c_3
  · refine r_aload_n (i := 0) hk (dk_at D_Mod_doWrite 3 rfl) rfl rfl ?_
    refine r_get hk fl_Mod_87 (dk_at D_Mod_doWrite 4 rfl) ?_ (hw := hob)
    refine r_if_ne (t := 20) hk (dk_at D_Mod_doWrite 5 rfl) (by decide) (by omega) (fun c_10 => ?_) (fun c_10 => ?_)
    · have hq0 : qn ≠ 0 := by omega
      obtain ⟨fc, h53, hfc⟩ := h.q_
      obtain ⟨fm, h54, hfm⟩ := h.qm_
      refine r_aload_n (i := 0) hk (dk_at D_Mod_doWrite 11 rfl) rfl rfl ?_
      refine r_iload_n (i := 2) hk (dk_at D_Mod_doWrite 12 rfl) rfl rfl ?_
      refine r_aload_n (i := 0) hk (dk_at D_Mod_doWrite 13 rfl) rfl rfl ?_
      refine r_get hk fl_Mod_17 (dk_at D_Mod_doWrite 14 rfl) ?_ (hw := hob)
      refine r_iconst hk (dk_at D_Mod_doWrite 15 rfl) ?_
      refine r_laload (ix := 0) hk (dk_at D_Mod_doWrite 16 rfl) ?_ (hw := h53)
      refine r_top (hfc 0 (by omega)) ?_
      refine r_aload_n (i := 0) hk (dk_at D_Mod_doWrite 17 rfl) rfl rfl ?_
      refine r_get hk fl_Mod_21 (dk_at D_Mod_doWrite 18 rfl) ?_ (hw := hob)
      refine r_iconst hk (dk_at D_Mod_doWrite 19 rfl) ?_
      refine r_zaload (ix := 0) hk (dk_at D_Mod_doWrite 20 rfl) ?_ (hw := h54)
      refine r_top (hfm 0 (by omega)) ?_
      refine r_callVqv hk hR m_Mod_write s_Mod_write ml_Mod_54 (dk_at D_Mod_doWrite 21 rfl) (c_Mod_write G (a := a) (v := (q 0).1) (sg := (q 0).2) h ha (hq 0)) (fun w h => ?_) (i := (50, 0)) (hw := hob)
      clear hob h53 h54 hfc hfm
      have hob := h.ob_
      obtain ⟨fc, h53, hfc⟩ := h.q_
      obtain ⟨fm, h54, hfm⟩ := h.qm_
      refine r_aload_n (i := 0) hk (dk_at D_Mod_doWrite 22 rfl) rfl rfl ?_
      refine r_dup hk (dk_at D_Mod_doWrite 23 rfl) rfl ?_
      refine r_get hk fl_Mod_87 (dk_at D_Mod_doWrite 24 rfl) ?_ (hw := hob)
      refine r_iconst hk (dk_at D_Mod_doWrite 25 rfl) ?_
      refine r_isub hk (dk_at D_Mod_doWrite 26 rfl) ?_
      refine r_topi (x' := ((qn - 1 : Nat) : Int)) (by omega) ?_
      refine r_put (fs' := [_, _, _, _, _, _, _, _, _, _, _, _, _, _, _, _, _, _, _, _, _, _, _, _, _, _, _, _]) hk fl_Mod_87 ft_Mod_12 (dk_at D_Mod_doWrite 27 rfl) ?_ (hw := hob)
      refine r_iconst hk (dk_at D_Mod_doWrite 28 rfl) ?_
      refine r_istore (i := 4) (ls' := [_, _, _, _, _]) hk (dk_at D_Mod_doWrite 29 rfl) rfl rfl rfl ?_
      have loop : ∀ k : Nat, k ≤ qn - 1 → ∀ (w1 : Wt) (z : Int) (f1 f2 : Nat → Value), z = (k : Int) → (∀ i : Ix, i ≠ (50, 0) → i ≠ (53, 0) → i ≠ (54, 0) → w1 i = w i) → w1 (50, 0) = some (tOb ad cd (((A / 10 ^ 10 : Nat) : Int)) (((A % 10 ^ 10 : Nat) : Int)) (((dv : Nat) : Int)) mn dm ov (((nx : Nat) : Int)) fl t (qn - 1) on m fu) → w1 (53, 0) = some (.inr (1, 20, f1)) → w1 (54, 0) = some (.inr (2, 20, f2)) → (∀ j, j < k → f1 j = .long (i64 (q (j + 1)).1) ∧ f2 j = .int (i32 (b2i (q (j + 1)).2))) → (∀ j, k ≤ j → j < qn → f1 j = .long (i64 (q j).1) ∧ f2 j = .int (i32 (b2i (q j).2))) → V G K 5 (QE G K (fun rv ad' w' => ad' = ad ∧ ((qn = 0 ∧ rv = some (.int (i32 (b2i false))) ∧ TX w0 ad w' cd (((A / 10 ^ 10 : Nat) : Int)) (((A % 10 ^ 10 : Nat) : Int)) (((dv : Nat) : Int)) mn dm ov (((nx : Nat) : Int)) 4 t qn on m fu c g q o ln r p hd at_ wr) ∨ (qn ≠ 0 ∧ rv = some (.int (i32 (b2i true))) ∧ TX w0 ad w' cd (((A / 10 ^ 10 : Nat) : Int)) (((A % 10 ^ 10 : Nat) : Int)) (((dv : Nat) : Int)) mn dm ov (((nx : Nat) : Int)) fl (t + 10) (qn - 1) on m fu (fu_ c a (cdv (q 0).1)) (fu_ g a (q 0).2) (fun k => q (k + 1)) o ln r p hd at_ wr))) noT 0 0) 0 0 50 [some (.ref (ad (50, 0))), some (.int (i32 70)), some (.int (i32 a)), some (.int (i32 (nx : Nat))), some (.int (i32 z))] [] ad w1 := by
        refine nup (qn - 1) (fun k hk2 ih w1 z f1 f2 hz e h50 h53 h54 hlo hhi => ?_)
        subst hz
        refine r_iload (i := 4) hk (dk_at D_Mod_doWrite 30 rfl) rfl ?_
        refine r_aload_n (i := 0) hk (dk_at D_Mod_doWrite 31 rfl) rfl rfl ?_
        refine r_get hk fl_Mod_87 (dk_at D_Mod_doWrite 32 rfl) ?_ (hw := h50)
        refine r_icmp_ge (t := 97) hk (dk_at D_Mod_doWrite 33 rfl) (by decide) (by omega) (by omega) (fun c_56 => ?_) (fun c_56 => ?_)
        · obtain rfl : k = qn - 1 := by omega
          refine r_aload_n (i := 0) hk (dk_at D_Mod_doWrite 56 rfl) rfl rfl ?_
          refine r_dup hk (dk_at D_Mod_doWrite 57 rfl) rfl ?_
          refine r_get hk fl_Mod_99 (dk_at D_Mod_doWrite 58 rfl) ?_ (hw := h50)
          refine r_ldc2 hk kl_Mod_67 (dk_at D_Mod_doWrite 59 rfl) ?_
          refine r_ladd hk (dk_at D_Mod_doWrite 60 rfl) ?_
          refine r_topl (x' := ((t + 10 : Nat) : Int)) (by omega) ?_
          refine r_put (fs' := [_, _, _, _, _, _, _, _, _, _, _, _, _, _, _, _, _, _, _, _, _, _, _, _, _, _, _, _]) hk fl_Mod_99 ft_Mod_11 (dk_at D_Mod_doWrite 61 rfl) ?_ (hw := h50)
          refine r_iconst hk (dk_at D_Mod_doWrite 62 rfl) ?_
          exact r_bret (b := true) hk (dk_at D_Mod_doWrite 63 rfl) ⟨rfl, Or.inr ⟨hq0, rfl, h.qs (fun i a b d => (up_n a).trans (e i a b d)) up_s ⟨f1, (up_n (by intro e; cases e)).trans h53, fun j hj => (hlo j hj).1⟩ ⟨f2, (up_n (by intro e; cases e)).trans h54, fun j hj => (hlo j hj).2⟩⟩⟩
        · obtain ⟨g1, g2⟩ := hhi (k + 1) (by omega) (by omega)
          refine r_aload_n (i := 0) hk (dk_at D_Mod_doWrite 34 rfl) rfl rfl ?_
          refine r_get hk fl_Mod_17 (dk_at D_Mod_doWrite 35 rfl) ?_ (hw := h50)
          refine r_iload (i := 4) hk (dk_at D_Mod_doWrite 36 rfl) rfl ?_
          refine r_aload_n (i := 0) hk (dk_at D_Mod_doWrite 37 rfl) rfl rfl ?_
          refine r_get hk fl_Mod_17 (dk_at D_Mod_doWrite 38 rfl) ?_ (hw := h50)
          refine r_iload (i := 4) hk (dk_at D_Mod_doWrite 39 rfl) rfl ?_
          refine r_iconst hk (dk_at D_Mod_doWrite 40 rfl) ?_
          refine r_iadd hk (dk_at D_Mod_doWrite 41 rfl) ?_
          refine r_laload (ix := (k + 1)) hk (dk_at D_Mod_doWrite 42 rfl) ?_ (hw := h53)
          refine r_top g1 ?_
          refine r_lastore (ix := k) hk (dk_at D_Mod_doWrite 43 rfl) ?_ (hw := h53)
          refine r_aload_n (i := 0) hk (dk_at D_Mod_doWrite 44 rfl) rfl rfl ?_
          refine r_get hk fl_Mod_21 (dk_at D_Mod_doWrite 45 rfl) ?_ (hw := (up_n (by intro e; cases e)).trans h50)
          refine r_iload (i := 4) hk (dk_at D_Mod_doWrite 46 rfl) rfl ?_
          refine r_aload_n (i := 0) hk (dk_at D_Mod_doWrite 47 rfl) rfl rfl ?_
          refine r_get hk fl_Mod_21 (dk_at D_Mod_doWrite 48 rfl) ?_ (hw := (up_n (by intro e; cases e)).trans h50)
          refine r_iload (i := 4) hk (dk_at D_Mod_doWrite 49 rfl) rfl ?_
          refine r_iconst hk (dk_at D_Mod_doWrite 50 rfl) ?_
          refine r_iadd hk (dk_at D_Mod_doWrite 51 rfl) ?_
          refine r_zaload (ix := (k + 1)) hk (dk_at D_Mod_doWrite 52 rfl) ?_ (hw := (up_n (by intro e; cases e)).trans h54)
          refine r_top g2 ?_
          refine r_zastore (ix := k) hk (dk_at D_Mod_doWrite 53 rfl) ?_ (b := (q (k + 1)).2) (hw := (up_n (by intro e; cases e)).trans h54)
          refine r_iinc (i := 4) (ls' := [_, _, _, _, _]) hk (dk_at D_Mod_doWrite 54 rfl) rfl rfl rfl rfl ?_
          refine r_goto (t := 50) hk (dk_at D_Mod_doWrite 55 rfl) (by decide) ?_
          refine ih (by omega) _ _ _ _ (by omega) (fun i a b d => (up_n d).trans ((up_n b).trans (e i a b d))) ((up_n (by intro e; cases e)).trans ((up_n (by intro e; cases e)).trans h50)) ((up_n (by intro e; cases e)).trans up_s) up_s (fun j hj => ?_) (fun j hj hj2 => ?_)
          · by_cases e : j = k
            · rw [e, updV_s, updV_s]; exact ⟨rfl, rfl⟩
            · rw [updV_n e, updV_n e]; exact hlo j (by omega)
          · rw [updV_n (by omega), updV_n (by omega)]; exact hhi j (by omega) hj2
      exact loop 0 (Nat.zero_le _) _ _ fc fm rfl (fun i a b d => up_n a) up_s ((up_n (by intro e; cases e)).trans h53) ((up_n (by intro e; cases e)).trans h54) (fun j hj => by omega) (fun j _ hj => ⟨hfc j hj, hfm j hj⟩)
    · refine r_aload_n (i := 0) hk (dk_at D_Mod_doWrite 6 rfl) rfl rfl ?_
      refine r_iconst hk (dk_at D_Mod_doWrite 7 rfl) ?_
      refine r_iload_n (i := 3) hk (dk_at D_Mod_doWrite 8 rfl) rfl rfl ?_
      refine r_callVq hk hR m_Mod_stop s_Mod_stop ml_Mod_134 (dk_at D_Mod_doWrite 9 rfl) (c_Mod_stop G (z := 4) (y := ((nx : Nat) : Int)) h) (fun w h => ?_) (i := (50, 0)) (hw := hob)
      exact r_bret (b := false) hk (dk_at D_Mod_doWrite 10 rfl) ⟨rfl, Or.inl ⟨by omega, rfl, h⟩⟩
