/-! the twin: cards, outputs, doWrite -/
theorem TX.qs {w0 w : Wt} {ad : Ix → Nat} {cd : Int} {U : Int} {L : Int} {dv : Int} {mn : Bool} {dm : Bool} {ov : Bool} {nx : Int} {fl : Int} {t : Nat} {qn : Nat} {on : Nat} {m : Nat} {fu : Bool} {c : Nat → Nat → Nat} {g : Nat → Bool} {q : Nat → Nat × Bool} {o : Nat → Nat × Bool} {ln : Nat → Ln} {r : Nat → Bool} {p : Nat → Int} {hd : Nat → Bool} {at_ : Nat → Int} {wr : Nat → Int} {w' : Wt} {qn' : Nat} {q' : Nat → Nat × Bool} {cd' U' L' dv' nx' fl' : Int} {mn' dm' ov' fu' : Bool} {t' : Nat} (h : TX w0 ad w cd U L dv mn dm ov nx fl t qn on m fu c g q o ln r p hd at_ wr) (e : ∀ i : Ix, i ≠ (50, 0) → i ≠ (53, 0) → i ≠ (54, 0) → w' i = w i) (h1 : w' (50, 0) = some (tOb ad cd' U' L' dv' mn' dm' ov' nx' fl' t' qn' on m fu')) (h4 : pA w' (53, 0) 1 20 qn' (fun k => .long (i64 (q' k).1))) (h5 : pA w' (54, 0) 2 20 qn' (fun k => .int (i32 (b2i (q' k).2)))) : TX w0 ad w' cd' U' L' dv' mn' dm' ov' nx' fl' t' qn' on m fu' c g q' o ln r p hd at_ wr := by
  obtain ⟨h0, -, h2, h3, -, -, h6, h7, h8, h9, h10, h11, h12, h13, h14, h15⟩ := h
  exact ⟨fun i hi => (e i (nfam rfl hi) (nfam rfl hi) (nfam rfl hi)).trans (h0 i hi), h1, (e _ (by intro e; cases e) (by intro e; cases e) (by intro e; cases e)).trans h2, (e _ (by intro e; cases e) (by intro e; cases e) (by intro e; cases e)).trans h3, h4, h5, h6.fr (e _ (by intro e; cases e) (by intro e; cases e) (by intro e; cases e)), h7.fr (e _ (by intro e; cases e) (by intro e; cases e) (by intro e; cases e)), h8.fr (e _ (by intro e; cases e) (by intro e; cases e) (by intro e; cases e)), h9.fr (e _ (by intro e; cases e) (by intro e; cases e) (by intro e; cases e)), h10.fr (e _ (by intro e; cases e) (by intro e; cases e) (by intro e; cases e)), (e _ (by intro e; cases e) (by intro e; cases e) (by intro e; cases e)).trans h11, (e _ (by intro e; cases e) (by intro e; cases e) (by intro e; cases e)).trans h12, (e _ (by intro e; cases e) (by intro e; cases e) (by intro e; cases e)).trans h13, (e _ (by intro e; cases e) (by intro e; cases e) (by intro e; cases e)).trans h14, (e _ (by intro e; cases e) (by intro e; cases e) (by intro e; cases e)).trans h15⟩
theorem TX.os {w0 w : Wt} {ad : Ix → Nat} {cd : Int} {U : Int} {L : Int} {dv : Int} {mn : Bool} {dm : Bool} {ov : Bool} {nx : Int} {fl : Int} {t : Nat} {qn : Nat} {on : Nat} {m : Nat} {fu : Bool} {c : Nat → Nat → Nat} {g : Nat → Bool} {q : Nat → Nat × Bool} {o : Nat → Nat × Bool} {ln : Nat → Ln} {r : Nat → Bool} {p : Nat → Int} {hd : Nat → Bool} {at_ : Nat → Int} {wr : Nat → Int} {w' : Wt} {on' : Nat} {o' : Nat → Nat × Bool} {cd' U' L' dv' nx' fl' : Int} {mn' dm' ov' fu' : Bool} {t' : Nat} (h : TX w0 ad w cd U L dv mn dm ov nx fl t qn on m fu c g q o ln r p hd at_ wr) (e : ∀ i : Ix, i ≠ (50, 0) → i ≠ (55, 0) → w' i = w i) (h1 : w' (50, 0) = some (tOb ad cd' U' L' dv' mn' dm' ov' nx' fl' t' qn on' m fu')) (h6 : pA w' (55, 0) 1 40 on' (fun k => .long (i64 (sgn (o' k))))) : TX w0 ad w' cd' U' L' dv' mn' dm' ov' nx' fl' t' qn on' m fu' c g q o' ln r p hd at_ wr := by
  obtain ⟨h0, -, h2, h3, h4, h5, -, h7, h8, h9, h10, h11, h12, h13, h14, h15⟩ := h
  exact ⟨fun i hi => (e i (nfam rfl hi) (nfam rfl hi)).trans (h0 i hi), h1, (e _ (by intro e; cases e) (by intro e; cases e)).trans h2, (e _ (by intro e; cases e) (by intro e; cases e)).trans h3, h4.fr (e _ (by intro e; cases e) (by intro e; cases e)), h5.fr (e _ (by intro e; cases e) (by intro e; cases e)), h6, h7.fr (e _ (by intro e; cases e) (by intro e; cases e)), h8.fr (e _ (by intro e; cases e) (by intro e; cases e)), h9.fr (e _ (by intro e; cases e) (by intro e; cases e)), h10.fr (e _ (by intro e; cases e) (by intro e; cases e)), (e _ (by intro e; cases e) (by intro e; cases e)).trans h11, (e _ (by intro e; cases e) (by intro e; cases e)).trans h12, (e _ (by intro e; cases e) (by intro e; cases e)).trans h13, (e _ (by intro e; cases e) (by intro e; cases e)).trans h14, (e _ (by intro e; cases e) (by intro e; cases e)).trans h15⟩
theorem c_Mod_doWriteS (G : Gt) {w0 w : Wt} {ad : Ix → Nat} {cd : Int} {dv : Nat} {mn : Bool} {dm : Bool} {ov : Bool} {nx : Nat} {fl : Int} {t : Nat} {qn : Nat} {on : Nat} {m : Nat} {fu : Bool} {c : Nat → Nat → Nat} {g : Nat → Bool} {q : Nat → Nat × Bool} {o : Nat → Nat × Bool} {ln : Nat → Ln} {r : Nat → Bool} {p : Nat → Int} {hd : Nat → Bool} {at_ : Nat → Int} {wr : Nat → Int} {A : Nat} {op a : Nat} (h : TX w0 ad w cd (((A / 10 ^ 10 : Nat) : Int)) (((A % 10 ^ 10 : Nat) : Int)) (((dv : Nat) : Int)) mn dm ov (((nx : Nat) : Int)) fl t qn on m fu c g q o ln r p hd at_ wr) (hA : A < 10 ^ 20) (hdv : dv < 10 ^ 10) (hop : op = 20 ∨ op = 21 ∨ op = 22 ∨ op = 24) (ha : a < 200) : Mt G y_Mod_doWrite w_Mod_doWrite 1 0 0 [.ref (ad (50, 0)), .int (i32 op), .int (i32 a), .int (i32 (nx : Nat))] ad w (fun rv ad' w' => rv = some (.int (i32 (b2i true))) ∧ ad' = ad ∧ TX w0 ad w' cd (((A / 10 ^ 10 : Nat) : Int)) (((A % 10 ^ 10 : Nat) : Int)) (((stD op A dv : Nat) : Int)) mn (stM op mn dm) ov (((nx : Nat) : Int)) fl t qn on m fu (fu_ c a (cdv (stD op A dv))) (fu_ g a (stM op mn dm)) q o ln r p hd at_ wr) noT := by
  refine Mt.to [some (.ref (ad (50, 0))), some (.int (i32 op)), some (.int (i32 a)), some (.int (i32 (nx : Nat))), none] (fun K hk hR hin => ?_)
  have hL : A % 10 ^ 10 < 10 ^ 10 := by omega
  have hU : A / 10 ^ 10 < 10 ^ 10 := by omega
  have fin : ∀ w : Wt, TX w0 ad w cd (((A / 10 ^ 10 : Nat) : Int)) (((A % 10 ^ 10 : Nat) : Int)) (((stD op A dv : Nat) : Int)) mn (stM op mn dm) ov (((nx : Nat) : Int)) fl t qn on m fu c g q o ln r p hd at_ wr → V G K 5 (QE G K (fun rv ad' w' => rv = some (.int (i32 (b2i true))) ∧ ad' = ad ∧ TX w0 ad w' cd (((A / 10 ^ 10 : Nat) : Int)) (((A % 10 ^ 10 : Nat) : Int)) (((stD op A dv : Nat) : Int)) mn (stM op mn dm) ov (((nx : Nat) : Int)) fl t qn on m fu (fu_ c a (cdv (stD op A dv))) (fu_ g a (stM op mn dm)) q o ln r p hd at_ wr) noT 0 0) 0 0 194 [some (.ref (ad (50, 0))), some (.int (i32 op)), some (.int (i32 a)), some (.int (i32 (nx : Nat))), none] [] ad w := by
    intro w h
    have hob := h.ob_
    refine r_aload_n (i := 0) hk (dk_at D_Mod_doWrite 106 rfl) rfl rfl ?_
    refine r_iload_n (i := 2) hk (dk_at D_Mod_doWrite 107 rfl) rfl rfl ?_
    refine r_aload_n (i := 0) hk (dk_at D_Mod_doWrite 108 rfl) rfl rfl ?_
    refine r_get hk fl_Mod_140 (dk_at D_Mod_doWrite 109 rfl) ?_ (hw := hob)
    refine r_aload_n (i := 0) hk (dk_at D_Mod_doWrite 110 rfl) rfl rfl ?_
    refine r_get hk fl_Mod_143 (dk_at D_Mod_doWrite 111 rfl) ?_ (hw := hob)
    refine r_callVqv hk hR m_Mod_write s_Mod_write ml_Mod_54 (dk_at D_Mod_doWrite 112 rfl) (c_Mod_write G (a := a) (v := stD op A dv) (sg := stM op mn dm) h ha (stD_lt hA hdv)) (fun w h => ?_) (i := (50, 0)) (hw := hob)
    refine r_iconst hk (dk_at D_Mod_doWrite 113 rfl) ?_
    exact r_bret (b := true) hk (dk_at D_Mod_doWrite 114 rfl) ⟨rfl, rfl, h⟩
  have hob := h.ob_
  have e22 : op = 22 → stD op A dv = sad dv (A % 10 ^ 10 / 10 ^ 4 % 10 ^ 4) ∧ stM op mn dm = dm := fun e => ⟨if_pos e, if_pos e⟩
  have e24 : op = 24 → stD op A dv = dv ∧ stM op mn dm = dm := fun e => ⟨(if_neg (by omega)).trans (if_pos e), (if_neg (by omega)).trans (if_pos e)⟩
  have e21 : op = 21 → stD op A dv = A / 10 ^ 10 ∧ stM op mn dm = mn := fun e => ⟨(if_neg (by omega)).trans ((if_neg (by omega)).trans (if_pos e)), (if_neg (by omega)).trans (if_neg (by omega))⟩
  have e20 : op = 20 → stD op A dv = A % 10 ^ 10 ∧ stM op mn dm = mn := fun e => ⟨(if_neg (by omega)).trans ((if_neg (by omega)).trans (if_neg (by omega))), (if_neg (by omega)).trans (if_neg (by omega))⟩
  refine r_iload_n (i := 1) hk (dk_at D_Mod_doWrite 0 rfl) rfl rfl ?_
  refine r_bipush hk (dk_at D_Mod_doWrite 1 rfl) (by decide) ?_
  refine r_icmp_ne (t := 111) hk (dk_at D_Mod_doWrite 2 rfl) (by decide) (by omega) (by omega) (fun c_3 => ?_) (fun c_3 => ?_)
  · refine r_iload_n (i := 1) hk (dk_at D_Mod_doWrite 64 rfl) rfl rfl ?_
    refine r_bipush hk (dk_at D_Mod_doWrite 65 rfl) (by decide) ?_
    refine r_icmp_ge (t := 146) hk (dk_at D_Mod_doWrite 66 rfl) (by decide) (by omega) (by omega) (fun c_114 => ?_) (fun c_114 => ?_)
    · refine r_iload_n (i := 1) hk (dk_at D_Mod_doWrite 81 rfl) rfl rfl ?_
      refine r_bipush hk (dk_at D_Mod_doWrite 82 rfl) (by decide) ?_
      refine r_icmp_ne (t := 194) hk (dk_at D_Mod_doWrite 83 rfl) (by decide) (by omega) (by omega) (fun c_149 => ?_) (fun c_149 => ?_)
      · obtain ⟨eD, eM⟩ := e24 (by omega)
        exact fin w (by rw [eD, eM]; exact h)
      · obtain ⟨eD, eM⟩ := e22 (by omega)
        refine r_aload_n (i := 0) hk (dk_at D_Mod_doWrite 84 rfl) rfl rfl ?_
        refine r_aload_n (i := 0) hk (dk_at D_Mod_doWrite 85 rfl) rfl rfl ?_
        refine r_get hk fl_Mod_140 (dk_at D_Mod_doWrite 86 rfl) ?_ (hw := hob)
        refine r_ldc2 hk kl_Mod_164 (dk_at D_Mod_doWrite 87 rfl) ?_
        refine r_lrem hk (dk_at D_Mod_doWrite 88 rfl) (by omega) (by omega) ?_
        refine r_aload_n (i := 0) hk (dk_at D_Mod_doWrite 89 rfl) rfl rfl ?_
        refine r_get hk fl_Mod_115 (dk_at D_Mod_doWrite 90 rfl) ?_ (hw := hob)
        refine r_ldc2 hk kl_Mod_164 (dk_at D_Mod_doWrite 91 rfl) ?_
        refine r_ldiv hk (dk_at D_Mod_doWrite 92 rfl) (by omega) (by omega) ?_
        refine r_ldc2 hk kl_Mod_164 (dk_at D_Mod_doWrite 93 rfl) ?_
        refine r_lrem hk (dk_at D_Mod_doWrite 94 rfl) (by omega) (by omega) ?_
        refine r_ldc2 hk kl_Mod_164 (dk_at D_Mod_doWrite 95 rfl) ?_
        refine r_lmul hk (dk_at D_Mod_doWrite 96 rfl) ?_
        refine r_ladd hk (dk_at D_Mod_doWrite 97 rfl) ?_
        refine r_aload_n (i := 0) hk (dk_at D_Mod_doWrite 98 rfl) rfl rfl ?_
        refine r_get hk fl_Mod_140 (dk_at D_Mod_doWrite 99 rfl) ?_ (hw := hob)
        refine r_ldc2 hk kl_Mod_166 (dk_at D_Mod_doWrite 100 rfl) ?_
        refine r_ldiv hk (dk_at D_Mod_doWrite 101 rfl) (by omega) (by omega) ?_
        refine r_ldc2 hk kl_Mod_166 (dk_at D_Mod_doWrite 102 rfl) ?_
        refine r_lmul hk (dk_at D_Mod_doWrite 103 rfl) ?_
        refine r_ladd hk (dk_at D_Mod_doWrite 104 rfl) ?_
        refine r_topl (x' := ((sad dv (A % 10 ^ 10 / 10 ^ 4 % 10 ^ 4) : Nat) : Int)) (by unfold sad; omega) ?_
        refine r_put (fs' := [_, _, _, _, _, _, _, _, _, _, _, _, _, _, _, _, _, _, _, _, _, _, _, _, _, _, _, _]) hk fl_Mod_140 ft_Mod_5 (dk_at D_Mod_doWrite 105 rfl) ?_ (hw := hob)
        exact fin _ (by rw [eD, eM]; exact h.sc (dv' := ((sad dv (A % 10 ^ 10 / 10 ^ 4 % 10 ^ 4) : Nat) : Int)))
    · refine r_aload_n (i := 0) hk (dk_at D_Mod_doWrite 67 rfl) rfl rfl ?_
      refine r_iload_n (i := 1) hk (dk_at D_Mod_doWrite 68 rfl) rfl rfl ?_
      refine r_bipush hk (dk_at D_Mod_doWrite 69 rfl) (by decide) ?_
      refine r_icmp_ne (t := 131) hk (dk_at D_Mod_doWrite 70 rfl) (by decide) (by omega) (by omega) (fun c_121 => ?_) (fun c_121 => ?_)
      · obtain ⟨eD, eM⟩ := e21 (by omega)
        refine r_in hob ?_
        refine r_aload_n (i := 0) hk (dk_at D_Mod_doWrite 74 rfl) rfl rfl ?_
        refine r_get hk fl_Mod_118 (dk_at D_Mod_doWrite 75 rfl) ?_ (hw := up_s)
        refine r_put (fs' := [_, _, _, _, _, _, _, _, _, _, _, _, _, _, _, _, _, _, _, _, _, _, _, _, _, _, _, _]) hk fl_Mod_140 ft_Mod_5 (dk_at D_Mod_doWrite 76 rfl) ?_ (hw := up_s)
        refine r_we up_up ?_
        refine r_aload_n (i := 0) hk (dk_at D_Mod_doWrite 77 rfl) rfl rfl ?_
        refine r_aload_n (i := 0) hk (dk_at D_Mod_doWrite 78 rfl) rfl rfl ?_
        refine r_get hk fl_Mod_111 (dk_at D_Mod_doWrite 79 rfl) ?_ (hw := up_s)
        refine r_put (fs' := [_, _, _, _, _, _, _, _, _, _, _, _, _, _, _, _, _, _, _, _, _, _, _, _, _, _, _, _]) hk fl_Mod_143 ft_Mod_7 (dk_at D_Mod_doWrite 80 rfl) ?_ (hn := b2i_n _) (hfit := b2i_fit _) (hw := up_s)
        refine r_we up_up ?_
        refine r_iload_n (i := 1) hk (dk_at D_Mod_doWrite 81 rfl) rfl rfl ?_
        refine r_bipush hk (dk_at D_Mod_doWrite 82 rfl) (by decide) ?_
        refine r_icmp_ne (t := 194) hk (dk_at D_Mod_doWrite 83 rfl) (by decide) (by omega) (by omega) (fun c_149 => ?_) (fun c_149 => ?_)
        · exact fin _ (by rw [eD, eM]; exact h.sc)
        · exact absurd c_149 (by omega)
      · obtain ⟨eD, eM⟩ := e20 (by omega)
        refine r_in hob ?_
        refine r_aload_n (i := 0) hk (dk_at D_Mod_doWrite 71 rfl) rfl rfl ?_
        refine r_get hk fl_Mod_115 (dk_at D_Mod_doWrite 72 rfl) ?_ (hw := up_s)
        refine r_goto (t := 135) hk (dk_at D_Mod_doWrite 73 rfl) (by decide) ?_
        refine r_put (fs' := [_, _, _, _, _, _, _, _, _, _, _, _, _, _, _, _, _, _, _, _, _, _, _, _, _, _, _, _]) hk fl_Mod_140 ft_Mod_5 (dk_at D_Mod_doWrite 76 rfl) ?_ (hw := up_s)
        refine r_we up_up ?_
        refine r_aload_n (i := 0) hk (dk_at D_Mod_doWrite 77 rfl) rfl rfl ?_
        refine r_aload_n (i := 0) hk (dk_at D_Mod_doWrite 78 rfl) rfl rfl ?_
        refine r_get hk fl_Mod_111 (dk_at D_Mod_doWrite 79 rfl) ?_ (hw := up_s)
        refine r_put (fs' := [_, _, _, _, _, _, _, _, _, _, _, _, _, _, _, _, _, _, _, _, _, _, _, _, _, _, _, _]) hk fl_Mod_143 ft_Mod_7 (dk_at D_Mod_doWrite 80 rfl) ?_ (hn := b2i_n _) (hfit := b2i_fit _) (hw := up_s)
        refine r_we up_up ?_
        refine r_iload_n (i := 1) hk (dk_at D_Mod_doWrite 81 rfl) rfl rfl ?_
        refine r_bipush hk (dk_at D_Mod_doWrite 82 rfl) (by decide) ?_
        refine r_icmp_ne (t := 194) hk (dk_at D_Mod_doWrite 83 rfl) (by decide) (by omega) (by omega) (fun c_149 => ?_) (fun c_149 => ?_)
        · exact fin _ (by rw [eD, eM]; exact h.sc)
        · exact absurd c_149 (by omega)
  · exact absurd c_3 (by omega)
