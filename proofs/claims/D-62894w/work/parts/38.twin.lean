/-! the twin: add, shifts, sum, multiply, divide -/
theorem adA_t {A B : Nat} : adA A B true = (A + B) % 10 ^ 20 := rfl
theorem adM_t {A B : Nat} {mn : Bool} : adM A B mn true = mn := rfl
theorem adO_t {A B : Nat} {ov : Bool} : adO A B ov true = (ov || decide (10 ^ 20 ≤ A + B)) := rfl
theorem adO_f {A B : Nat} {ov : Bool} : adO A B ov false = ov := rfl
theorem adA_le {A B : Nat} (h : B ≤ A) : adA A B false = A - B := if_pos h
theorem adM_le {A B : Nat} {mn : Bool} (h : B ≤ A) : adM A B mn false = mn := if_pos h
theorem adA_gt {A B : Nat} (h : ¬ B ≤ A) : adA A B false = B - A := if_neg h
theorem adM_gt {A B : Nat} {mn : Bool} (h : ¬ B ≤ A) : adM A B mn false = !mn := if_neg h
theorem c_Mod_add (G : Gt) {w0 w : Wt} {ad : Ix → Nat} {cd : Int} {dv : Int} {mn : Bool} {dm : Bool} {ov : Bool} {nx : Int} {fl : Int} {t : Nat} {qn : Nat} {on : Nat} {m : Nat} {fu : Bool} {c : Nat → Nat → Nat} {g : Nat → Bool} {q : Nat → Nat × Bool} {o : Nat → Nat × Bool} {ln : Nat → Ln} {r : Nat → Bool} {p : Nat → Int} {hd : Nat → Bool} {at_ : Nat → Int} {wr : Nat → Int} {A : Nat} {x y : Nat} {s : Bool} (h : TX w0 ad w cd (((A / 10 ^ 10 : Nat) : Int)) (((A % 10 ^ 10 : Nat) : Int)) dv mn dm ov nx fl t qn on m fu c g q o ln r p hd at_ wr) (hA : A < 10 ^ 20) (hx : x < 10 ^ 10) (hy : y < 10 ^ 10) : Mt G y_Mod_add w_Mod_add 0 0 0 [.ref (ad (50, 0)), .long (i64 x), .long (i64 y), .int (i32 (b2i s))] ad w (fun rv ad' w' => rv = none ∧ ad' = ad ∧ TX w0 ad w' cd ((((adA A (x * 10 ^ 10 + y) (s == mn)) / 10 ^ 10 : Nat) : Int)) ((((adA A (x * 10 ^ 10 + y) (s == mn)) % 10 ^ 10 : Nat) : Int)) dv (adM A (x * 10 ^ 10 + y) mn (s == mn)) dm (adO A (x * 10 ^ 10 + y) ov (s == mn)) nx fl t qn on m fu c g q o ln r p hd at_ wr) noT := by
  refine Mt.to [some (.ref (ad (50, 0))), some (.long (i64 x)), none, some (.long (i64 y)), none, some (.int (i32 (b2i s))), none, none, none, none, none, none, none, none, none] (fun K hk hR hin => ?_)
  refine r_in h.ob_ ?_
  have hU : A / 10 ^ 10 < 10 ^ 10 := by omega
  have hL : A % 10 ^ 10 < 10 ^ 10 := by omega
  refine r_iload (i := 5) hk (dk_at D_Mod_add 0 rfl) rfl ?_
  refine r_aload_n (i := 0) hk (dk_at D_Mod_add 1 rfl) rfl rfl ?_
  refine r_get hk fl_Mod_111 (dk_at D_Mod_add 2 rfl) ?_ (hw := up_s)
  refine r_icmp_neB (t := 78) hk (dk_at D_Mod_add 3 rfl) (by decide) (fun c_6 => ?_) (fun c_6 => ?_)
  · have e : (s == mn) = false := same_f c_6
    have g1 : (x * 10 ^ 10 + y) ≤ A → V G K 15 (QE G K (fun rv ad' w' => rv = none ∧ ad' = ad ∧ TX w0 ad w' cd ((((adA A (x * 10 ^ 10 + y) (s == mn)) / 10 ^ 10 : Nat) : Int)) ((((adA A (x * 10 ^ 10 + y) (s == mn)) % 10 ^ 10 : Nat) : Int)) dv (adM A (x * 10 ^ 10 + y) mn (s == mn)) dm (adO A (x * 10 ^ 10 + y) ov (s == mn)) nx fl t qn on m fu c g q o ln r p hd at_ wr) noT 0 0) 0 0 110 [some (.ref (ad (50, 0))), some (.long (i64 x)), none, some (.long (i64 y)), none, some (.int (i32 (b2i s))), none, none, none, none, none, none, none, none, none] [.int (i32 (b2i true))] ad (up w (50, 0) (some (tOb ad cd (((A / 10 ^ 10 : Nat) : Int)) (((A % 10 ^ 10 : Nat) : Int)) dv mn dm ov nx fl t qn on m fu))) := by
      intro hle
      have eA : adA A (x * 10 ^ 10 + y) (s == mn) = A - (x * 10 ^ 10 + y) := by rw [e, adA_le hle]
      have eM : adM A (x * 10 ^ 10 + y) mn (s == mn) = mn := by rw [e, adM_le hle]
      have eO : adO A (x * 10 ^ 10 + y) ov (s == mn) = ov := by rw [e, adO_f]
      rw [eA, eM, eO]
      refine r_istore (i := 6) (ls' := [_, _, _, _, _, _, _, _, _, _, _, _, _, _, _]) hk (dk_at D_Mod_add 59 rfl) rfl rfl rfl ?_
      refine r_iload (i := 6) hk (dk_at D_Mod_add 60 rfl) rfl ?_
      refine r_if_eqB (t := 124) hk (dk_at D_Mod_add 61 rfl) (by decide) (fun c_114 => ?_) (fun c_114 => ?_)
      · cases c_114
      · refine r_aload_n (i := 0) hk (dk_at D_Mod_add 62 rfl) rfl rfl ?_
        refine r_get hk fl_Mod_118 (dk_at D_Mod_add 63 rfl) ?_ (hw := up_s)
        refine r_goto (t := 125) hk (dk_at D_Mod_add 64 rfl) (by decide) ?_
        refine r_lstore (i := 7) (ls' := [_, _, _, _, _, _, _, _, _, _, _, _, _, _, _]) hk (dk_at D_Mod_add 66 rfl) rfl rfl rfl ?_
        refine r_iload (i := 6) hk (dk_at D_Mod_add 67 rfl) rfl ?_
        refine r_if_eqB (t := 139) hk (dk_at D_Mod_add 68 rfl) (by decide) (fun c_129 => ?_) (fun c_129 => ?_)
        · cases c_129
        · refine r_aload_n (i := 0) hk (dk_at D_Mod_add 69 rfl) rfl rfl ?_
          refine r_get hk fl_Mod_115 (dk_at D_Mod_add 70 rfl) ?_ (hw := up_s)
          refine r_goto (t := 140) hk (dk_at D_Mod_add 71 rfl) (by decide) ?_
          refine r_lstore (i := 9) (ls' := [_, _, _, _, _, _, _, _, _, _, _, _, _, _, _]) hk (dk_at D_Mod_add 73 rfl) rfl rfl rfl ?_
          refine r_iload (i := 6) hk (dk_at D_Mod_add 74 rfl) rfl ?_
          refine r_if_eqB (t := 151) hk (dk_at D_Mod_add 75 rfl) (by decide) (fun c_144 => ?_) (fun c_144 => ?_)
          · cases c_144
          · refine r_lload_n (i := 1) hk (dk_at D_Mod_add 76 rfl) rfl rfl ?_
            refine r_goto (t := 155) hk (dk_at D_Mod_add 77 rfl) (by decide) ?_
            refine r_lstore (i := 11) (ls' := [_, _, _, _, _, _, _, _, _, _, _, _, _, _, _]) hk (dk_at D_Mod_add 80 rfl) rfl rfl rfl ?_
            refine r_iload (i := 6) hk (dk_at D_Mod_add 81 rfl) rfl ?_
            refine r_if_eqB (t := 166) hk (dk_at D_Mod_add 82 rfl) (by decide) (fun c_159 => ?_) (fun c_159 => ?_)
            · cases c_159
            · refine r_lload_n (i := 3) hk (dk_at D_Mod_add 83 rfl) rfl rfl ?_
              refine r_goto (t := 170) hk (dk_at D_Mod_add 84 rfl) (by decide) ?_
              refine r_lstore (i := 13) (ls' := [_, _, _, _, _, _, _, _, _, _, _, _, _, _, _]) hk (dk_at D_Mod_add 87 rfl) rfl rfl rfl ?_
              refine r_aload_n (i := 0) hk (dk_at D_Mod_add 88 rfl) rfl rfl ?_
              refine r_iload (i := 6) hk (dk_at D_Mod_add 89 rfl) rfl ?_
              refine r_if_eqB (t := 185) hk (dk_at D_Mod_add 90 rfl) (by decide) (fun c_175 => ?_) (fun c_175 => ?_)
              · cases c_175
              · refine r_aload_n (i := 0) hk (dk_at D_Mod_add 91 rfl) rfl rfl ?_
                refine r_get hk fl_Mod_111 (dk_at D_Mod_add 92 rfl) ?_ (hw := up_s)
                refine r_goto (t := 187) hk (dk_at D_Mod_add 93 rfl) (by decide) ?_
                refine r_put (fs' := [_, _, _, _, _, _, _, _, _, _, _, _, _, _, _, _, _, _, _, _, _, _, _, _, _, _, _, _]) hk fl_Mod_111 ft_Mod_6 (dk_at D_Mod_add 95 rfl) ?_ (hn := b2i_n _) (hfit := b2i_fit _) (hw := up_s)
                refine r_we up_up ?_
                refine r_aload_n (i := 0) hk (dk_at D_Mod_add 96 rfl) rfl rfl ?_
                refine r_lload (i := 9) hk (dk_at D_Mod_add 97 rfl) rfl ?_
                refine r_lload (i := 13) hk (dk_at D_Mod_add 98 rfl) rfl ?_
                refine r_lsub hk (dk_at D_Mod_add 99 rfl) ?_
                refine r_put (fs' := [_, _, _, _, _, _, _, _, _, _, _, _, _, _, _, _, _, _, _, _, _, _, _, _, _, _, _, _]) hk fl_Mod_115 ft_Mod_4 (dk_at D_Mod_add 100 rfl) ?_ (hw := up_s)
                refine r_we up_up ?_
                refine r_aload_n (i := 0) hk (dk_at D_Mod_add 101 rfl) rfl rfl ?_
                refine r_lload (i := 7) hk (dk_at D_Mod_add 102 rfl) rfl ?_
                refine r_lload (i := 11) hk (dk_at D_Mod_add 103 rfl) rfl ?_
                refine r_lsub hk (dk_at D_Mod_add 104 rfl) ?_
                refine r_put (fs' := [_, _, _, _, _, _, _, _, _, _, _, _, _, _, _, _, _, _, _, _, _, _, _, _, _, _, _, _]) hk fl_Mod_118 ft_Mod_3 (dk_at D_Mod_add 105 rfl) ?_ (hw := up_s)
                refine r_we up_up ?_
                refine r_aload_n (i := 0) hk (dk_at D_Mod_add 106 rfl) rfl rfl ?_
                refine r_get hk fl_Mod_115 (dk_at D_Mod_add 107 rfl) ?_ (hw := up_s)
                refine r_lconst (z := 0) hk (dk_at D_Mod_add 108 rfl) rfl ?_
                refine r_lc_ge (t := 239) hk (dk_at D_Mod_add 109 rfl) (dk_at D_Mod_add 110 rfl) (by decide) (by omega) (by omega) (fun c_214 => ?_) (fun c_214 => ?_)
                · exact r_vret hk (dk_at D_Mod_add 123 rfl) ⟨rfl, rfl, by have h9 := h.sc (U' := (((A / 10 ^ 10 : Nat) : Int) - (x : Int))) (L' := (((A % 10 ^ 10 : Nat) : Int) - (y : Int))) (mn' := mn) (cd' := cd) (dv' := dv) (dm' := dm) (ov' := ov) (nx' := nx) (fl' := fl) (t' := t) (fu' := fu); rw [show (((A - (x * 10 ^ 10 + y)) / 10 ^ 10 : Nat) : Int) = (((A / 10 ^ 10 : Nat) : Int) - (x : Int)) by omega, show (((A - (x * 10 ^ 10 + y)) % 10 ^ 10 : Nat) : Int) = (((A % 10 ^ 10 : Nat) : Int) - (y : Int)) by omega]; exact h9⟩
                · refine r_aload_n (i := 0) hk (dk_at D_Mod_add 111 rfl) rfl rfl ?_
                  refine r_dup hk (dk_at D_Mod_add 112 rfl) rfl ?_
                  refine r_get hk fl_Mod_115 (dk_at D_Mod_add 113 rfl) ?_ (hw := up_s)
                  refine r_ldc2 hk kl_Mod_65 (dk_at D_Mod_add 114 rfl) ?_
                  refine r_ladd hk (dk_at D_Mod_add 115 rfl) ?_
                  refine r_put (fs' := [_, _, _, _, _, _, _, _, _, _, _, _, _, _, _, _, _, _, _, _, _, _, _, _, _, _, _, _]) hk fl_Mod_115 ft_Mod_4 (dk_at D_Mod_add 116 rfl) ?_ (hw := up_s)
                  refine r_we up_up ?_
                  refine r_aload_n (i := 0) hk (dk_at D_Mod_add 117 rfl) rfl rfl ?_
                  refine r_dup hk (dk_at D_Mod_add 118 rfl) rfl ?_
                  refine r_get hk fl_Mod_118 (dk_at D_Mod_add 119 rfl) ?_ (hw := up_s)
                  refine r_lconst (z := 1) hk (dk_at D_Mod_add 120 rfl) rfl ?_
                  refine r_lsub hk (dk_at D_Mod_add 121 rfl) ?_
                  refine r_put (fs' := [_, _, _, _, _, _, _, _, _, _, _, _, _, _, _, _, _, _, _, _, _, _, _, _, _, _, _, _]) hk fl_Mod_118 ft_Mod_3 (dk_at D_Mod_add 122 rfl) ?_ (hw := up_s)
                  refine r_we up_up ?_
                  exact r_vret hk (dk_at D_Mod_add 123 rfl) ⟨rfl, rfl, by have h9 := h.sc (U' := (((A / 10 ^ 10 : Nat) : Int) - (x : Int)) - 1) (L' := (((A % 10 ^ 10 : Nat) : Int) - (y : Int)) + 10000000000) (mn' := mn) (cd' := cd) (dv' := dv) (dm' := dm) (ov' := ov) (nx' := nx) (fl' := fl) (t' := t) (fu' := fu); rw [show (((A - (x * 10 ^ 10 + y)) / 10 ^ 10 : Nat) : Int) = (((A / 10 ^ 10 : Nat) : Int) - (x : Int)) - 1 by omega, show (((A - (x * 10 ^ 10 + y)) % 10 ^ 10 : Nat) : Int) = (((A % 10 ^ 10 : Nat) : Int) - (y : Int)) + 10000000000 by omega]; exact h9⟩
    have g0 : ¬ (x * 10 ^ 10 + y) ≤ A → V G K 15 (QE G K (fun rv ad' w' => rv = none ∧ ad' = ad ∧ TX w0 ad w' cd ((((adA A (x * 10 ^ 10 + y) (s == mn)) / 10 ^ 10 : Nat) : Int)) ((((adA A (x * 10 ^ 10 + y) (s == mn)) % 10 ^ 10 : Nat) : Int)) dv (adM A (x * 10 ^ 10 + y) mn (s == mn)) dm (adO A (x * 10 ^ 10 + y) ov (s == mn)) nx fl t qn on m fu c g q o ln r p hd at_ wr) noT 0 0) 0 0 110 [some (.ref (ad (50, 0))), some (.long (i64 x)), none, some (.long (i64 y)), none, some (.int (i32 (b2i s))), none, none, none, none, none, none, none, none, none] [.int (i32 (b2i false))] ad (up w (50, 0) (some (tOb ad cd (((A / 10 ^ 10 : Nat) : Int)) (((A % 10 ^ 10 : Nat) : Int)) dv mn dm ov nx fl t qn on m fu))) := by
      intro hle
      have eA : adA A (x * 10 ^ 10 + y) (s == mn) = (x * 10 ^ 10 + y) - A := by rw [e, adA_gt hle]
      have eM : adM A (x * 10 ^ 10 + y) mn (s == mn) = s := by
        rw [e, adM_gt hle]
        revert c_6; cases s <;> cases mn <;> decide
      have eO : adO A (x * 10 ^ 10 + y) ov (s == mn) = ov := by rw [e, adO_f]
      rw [eA, eM, eO]
      refine r_istore (i := 6) (ls' := [_, _, _, _, _, _, _, _, _, _, _, _, _, _, _]) hk (dk_at D_Mod_add 59 rfl) rfl rfl rfl ?_
      refine r_iload (i := 6) hk (dk_at D_Mod_add 60 rfl) rfl ?_
      refine r_if_eqB (t := 124) hk (dk_at D_Mod_add 61 rfl) (by decide) (fun c_114 => ?_) (fun c_114 => ?_)
      · refine r_lload_n (i := 1) hk (dk_at D_Mod_add 65 rfl) rfl rfl ?_
        refine r_lstore (i := 7) (ls' := [_, _, _, _, _, _, _, _, _, _, _, _, _, _, _]) hk (dk_at D_Mod_add 66 rfl) rfl rfl rfl ?_
        refine r_iload (i := 6) hk (dk_at D_Mod_add 67 rfl) rfl ?_
        refine r_if_eqB (t := 139) hk (dk_at D_Mod_add 68 rfl) (by decide) (fun c_129 => ?_) (fun c_129 => ?_)
        · refine r_lload_n (i := 3) hk (dk_at D_Mod_add 72 rfl) rfl rfl ?_
          refine r_lstore (i := 9) (ls' := [_, _, _, _, _, _, _, _, _, _, _, _, _, _, _]) hk (dk_at D_Mod_add 73 rfl) rfl rfl rfl ?_
          refine r_iload (i := 6) hk (dk_at D_Mod_add 74 rfl) rfl ?_
          refine r_if_eqB (t := 151) hk (dk_at D_Mod_add 75 rfl) (by decide) (fun c_144 => ?_) (fun c_144 => ?_)
          · refine r_aload_n (i := 0) hk (dk_at D_Mod_add 78 rfl) rfl rfl ?_
            refine r_get hk fl_Mod_118 (dk_at D_Mod_add 79 rfl) ?_ (hw := up_s)
            refine r_lstore (i := 11) (ls' := [_, _, _, _, _, _, _, _, _, _, _, _, _, _, _]) hk (dk_at D_Mod_add 80 rfl) rfl rfl rfl ?_
            refine r_iload (i := 6) hk (dk_at D_Mod_add 81 rfl) rfl ?_
            refine r_if_eqB (t := 166) hk (dk_at D_Mod_add 82 rfl) (by decide) (fun c_159 => ?_) (fun c_159 => ?_)
            · refine r_aload_n (i := 0) hk (dk_at D_Mod_add 85 rfl) rfl rfl ?_
              refine r_get hk fl_Mod_115 (dk_at D_Mod_add 86 rfl) ?_ (hw := up_s)
              refine r_lstore (i := 13) (ls' := [_, _, _, _, _, _, _, _, _, _, _, _, _, _, _]) hk (dk_at D_Mod_add 87 rfl) rfl rfl rfl ?_
              refine r_aload_n (i := 0) hk (dk_at D_Mod_add 88 rfl) rfl rfl ?_
              refine r_iload (i := 6) hk (dk_at D_Mod_add 89 rfl) rfl ?_
              refine r_if_eqB (t := 185) hk (dk_at D_Mod_add 90 rfl) (by decide) (fun c_175 => ?_) (fun c_175 => ?_)
              · refine r_iload (i := 5) hk (dk_at D_Mod_add 94 rfl) rfl ?_
                refine r_put (fs' := [_, _, _, _, _, _, _, _, _, _, _, _, _, _, _, _, _, _, _, _, _, _, _, _, _, _, _, _]) hk fl_Mod_111 ft_Mod_6 (dk_at D_Mod_add 95 rfl) ?_ (hn := b2i_n _) (hfit := b2i_fit _) (hw := up_s)
                refine r_we up_up ?_
                refine r_aload_n (i := 0) hk (dk_at D_Mod_add 96 rfl) rfl rfl ?_
                refine r_lload (i := 9) hk (dk_at D_Mod_add 97 rfl) rfl ?_
                refine r_lload (i := 13) hk (dk_at D_Mod_add 98 rfl) rfl ?_
                refine r_lsub hk (dk_at D_Mod_add 99 rfl) ?_
                refine r_put (fs' := [_, _, _, _, _, _, _, _, _, _, _, _, _, _, _, _, _, _, _, _, _, _, _, _, _, _, _, _]) hk fl_Mod_115 ft_Mod_4 (dk_at D_Mod_add 100 rfl) ?_ (hw := up_s)
                refine r_we up_up ?_
                refine r_aload_n (i := 0) hk (dk_at D_Mod_add 101 rfl) rfl rfl ?_
                refine r_lload (i := 7) hk (dk_at D_Mod_add 102 rfl) rfl ?_
                refine r_lload (i := 11) hk (dk_at D_Mod_add 103 rfl) rfl ?_
                refine r_lsub hk (dk_at D_Mod_add 104 rfl) ?_
                refine r_put (fs' := [_, _, _, _, _, _, _, _, _, _, _, _, _, _, _, _, _, _, _, _, _, _, _, _, _, _, _, _]) hk fl_Mod_118 ft_Mod_3 (dk_at D_Mod_add 105 rfl) ?_ (hw := up_s)
                refine r_we up_up ?_
                refine r_aload_n (i := 0) hk (dk_at D_Mod_add 106 rfl) rfl rfl ?_
                refine r_get hk fl_Mod_115 (dk_at D_Mod_add 107 rfl) ?_ (hw := up_s)
                refine r_lconst (z := 0) hk (dk_at D_Mod_add 108 rfl) rfl ?_
                refine r_lc_ge (t := 239) hk (dk_at D_Mod_add 109 rfl) (dk_at D_Mod_add 110 rfl) (by decide) (by omega) (by omega) (fun c_214 => ?_) (fun c_214 => ?_)
                · exact r_vret hk (dk_at D_Mod_add 123 rfl) ⟨rfl, rfl, by have h9 := h.sc (U' := ((x : Int) - ((A / 10 ^ 10 : Nat) : Int))) (L' := ((y : Int) - ((A % 10 ^ 10 : Nat) : Int))) (mn' := s) (cd' := cd) (dv' := dv) (dm' := dm) (ov' := ov) (nx' := nx) (fl' := fl) (t' := t) (fu' := fu); rw [show ((((x * 10 ^ 10 + y) - A) / 10 ^ 10 : Nat) : Int) = ((x : Int) - ((A / 10 ^ 10 : Nat) : Int)) by omega, show ((((x * 10 ^ 10 + y) - A) % 10 ^ 10 : Nat) : Int) = ((y : Int) - ((A % 10 ^ 10 : Nat) : Int)) by omega]; exact h9⟩
                · refine r_aload_n (i := 0) hk (dk_at D_Mod_add 111 rfl) rfl rfl ?_
                  refine r_dup hk (dk_at D_Mod_add 112 rfl) rfl ?_
                  refine r_get hk fl_Mod_115 (dk_at D_Mod_add 113 rfl) ?_ (hw := up_s)
                  refine r_ldc2 hk kl_Mod_65 (dk_at D_Mod_add 114 rfl) ?_
                  refine r_ladd hk (dk_at D_Mod_add 115 rfl) ?_
                  refine r_put (fs' := [_, _, _, _, _, _, _, _, _, _, _, _, _, _, _, _, _, _, _, _, _, _, _, _, _, _, _, _]) hk fl_Mod_115 ft_Mod_4 (dk_at D_Mod_add 116 rfl) ?_ (hw := up_s)
                  refine r_we up_up ?_
                  refine r_aload_n (i := 0) hk (dk_at D_Mod_add 117 rfl) rfl rfl ?_
                  refine r_dup hk (dk_at D_Mod_add 118 rfl) rfl ?_
                  refine r_get hk fl_Mod_118 (dk_at D_Mod_add 119 rfl) ?_ (hw := up_s)
                  refine r_lconst (z := 1) hk (dk_at D_Mod_add 120 rfl) rfl ?_
                  refine r_lsub hk (dk_at D_Mod_add 121 rfl) ?_
                  refine r_put (fs' := [_, _, _, _, _, _, _, _, _, _, _, _, _, _, _, _, _, _, _, _, _, _, _, _, _, _, _, _]) hk fl_Mod_118 ft_Mod_3 (dk_at D_Mod_add 122 rfl) ?_ (hw := up_s)
                  refine r_we up_up ?_
                  exact r_vret hk (dk_at D_Mod_add 123 rfl) ⟨rfl, rfl, by have h9 := h.sc (U' := ((x : Int) - ((A / 10 ^ 10 : Nat) : Int)) - 1) (L' := ((y : Int) - ((A % 10 ^ 10 : Nat) : Int)) + 10000000000) (mn' := s) (cd' := cd) (dv' := dv) (dm' := dm) (ov' := ov) (nx' := nx) (fl' := fl) (t' := t) (fu' := fu); rw [show ((((x * 10 ^ 10 + y) - A) / 10 ^ 10 : Nat) : Int) = ((x : Int) - ((A / 10 ^ 10 : Nat) : Int)) - 1 by omega, show ((((x * 10 ^ 10 + y) - A) % 10 ^ 10 : Nat) : Int) = ((y : Int) - ((A % 10 ^ 10 : Nat) : Int)) + 10000000000 by omega]; exact h9⟩
              · cases c_175
            · cases c_159
          · cases c_144
        · cases c_129
      · cases c_114
    refine r_aload_n (i := 0) hk (dk_at D_Mod_add 41 rfl) rfl rfl ?_
    refine r_get hk fl_Mod_118 (dk_at D_Mod_add 42 rfl) ?_ (hw := up_s)
    refine r_lload_n (i := 1) hk (dk_at D_Mod_add 43 rfl) rfl rfl ?_
    refine r_lc_gt (t := 105) hk (dk_at D_Mod_add 44 rfl) (dk_at D_Mod_add 45 rfl) (by decide) (by omega) (by omega) (fun c_84 => ?_) (fun c_84 => ?_)
    · refine r_iconst hk (dk_at D_Mod_add 56 rfl) ?_
      refine r_goto (t := 110) hk (dk_at D_Mod_add 57 rfl) (by decide) ?_
      exact g1 (by omega)
    · refine r_aload_n (i := 0) hk (dk_at D_Mod_add 46 rfl) rfl rfl ?_
      refine r_get hk fl_Mod_118 (dk_at D_Mod_add 47 rfl) ?_ (hw := up_s)
      refine r_lload_n (i := 1) hk (dk_at D_Mod_add 48 rfl) rfl rfl ?_
      refine r_lc_ne (t := 109) hk (dk_at D_Mod_add 49 rfl) (dk_at D_Mod_add 50 rfl) (by decide) (by omega) (by omega) (fun c_93 => ?_) (fun c_93 => ?_)
      · refine r_iconst hk (dk_at D_Mod_add 58 rfl) ?_
        exact g0 (by omega)
      · refine r_aload_n (i := 0) hk (dk_at D_Mod_add 51 rfl) rfl rfl ?_
        refine r_get hk fl_Mod_115 (dk_at D_Mod_add 52 rfl) ?_ (hw := up_s)
        refine r_lload_n (i := 3) hk (dk_at D_Mod_add 53 rfl) rfl rfl ?_
        refine r_lc_lt (t := 109) hk (dk_at D_Mod_add 54 rfl) (dk_at D_Mod_add 55 rfl) (by decide) (by omega) (by omega) (fun c_102 => ?_) (fun c_102 => ?_)
        · refine r_iconst hk (dk_at D_Mod_add 58 rfl) ?_
          exact g0 (by omega)
        · refine r_iconst hk (dk_at D_Mod_add 56 rfl) ?_
          refine r_goto (t := 110) hk (dk_at D_Mod_add 57 rfl) (by decide) ?_
          exact g1 (by omega)
  · have e : (s == mn) = true := same_t c_6
    have eA : adA A (x * 10 ^ 10 + y) (s == mn) = (A + (x * 10 ^ 10 + y)) % 10 ^ 20 := by rw [e, adA_t]
    have eM : adM A (x * 10 ^ 10 + y) mn (s == mn) = mn := by rw [e, adM_t]
    have eO : adO A (x * 10 ^ 10 + y) ov (s == mn) = (ov || decide (10 ^ 20 ≤ A + (x * 10 ^ 10 + y))) := by rw [e, adO_t]
    rw [eA, eM, eO]
    refine r_aload_n (i := 0) hk (dk_at D_Mod_add 4 rfl) rfl rfl ?_
    refine r_get hk fl_Mod_115 (dk_at D_Mod_add 5 rfl) ?_ (hw := up_s)
    refine r_lload_n (i := 3) hk (dk_at D_Mod_add 6 rfl) rfl rfl ?_
    refine r_ladd hk (dk_at D_Mod_add 7 rfl) ?_
    refine r_lstore (i := 6) (ls' := [_, _, _, _, _, _, _, _, _, _, _, _, _, _, _]) hk (dk_at D_Mod_add 8 rfl) rfl rfl rfl ?_
    refine r_aload_n (i := 0) hk (dk_at D_Mod_add 9 rfl) rfl rfl ?_
    refine r_lload (i := 6) hk (dk_at D_Mod_add 10 rfl) rfl ?_
    refine r_ldc2 hk kl_Mod_65 (dk_at D_Mod_add 11 rfl) ?_
    refine r_lrem hk (dk_at D_Mod_add 12 rfl) (by omega) (by omega) ?_
    refine r_topl (x' := ((((A + (x * 10 ^ 10 + y)) % 10 ^ 20) % 10 ^ 10 : Nat) : Int)) (by omega) ?_
    refine r_put (fs' := [_, _, _, _, _, _, _, _, _, _, _, _, _, _, _, _, _, _, _, _, _, _, _, _, _, _, _, _]) hk fl_Mod_115 ft_Mod_4 (dk_at D_Mod_add 13 rfl) ?_ (hw := up_s)
    refine r_we up_up ?_
    refine r_aload_n (i := 0) hk (dk_at D_Mod_add 14 rfl) rfl rfl ?_
    refine r_get hk fl_Mod_118 (dk_at D_Mod_add 15 rfl) ?_ (hw := up_s)
    refine r_lload_n (i := 1) hk (dk_at D_Mod_add 16 rfl) rfl rfl ?_
    refine r_ladd hk (dk_at D_Mod_add 17 rfl) ?_
    refine r_lload (i := 6) hk (dk_at D_Mod_add 18 rfl) rfl ?_
    refine r_ldc2 hk kl_Mod_65 (dk_at D_Mod_add 19 rfl) ?_
    refine r_ldiv hk (dk_at D_Mod_add 20 rfl) (by omega) (by omega) ?_
    refine r_ladd hk (dk_at D_Mod_add 21 rfl) ?_
    refine r_lstore (i := 6) (ls' := [_, _, _, _, _, _, _, _, _, _, _, _, _, _, _]) hk (dk_at D_Mod_add 22 rfl) rfl rfl rfl ?_
    refine r_aload_n (i := 0) hk (dk_at D_Mod_add 23 rfl) rfl rfl ?_
    refine r_lload (i := 6) hk (dk_at D_Mod_add 24 rfl) rfl ?_
    refine r_ldc2 hk kl_Mod_65 (dk_at D_Mod_add 25 rfl) ?_
    refine r_lrem hk (dk_at D_Mod_add 26 rfl) (by omega) (by omega) ?_
    refine r_topl (x' := ((((A + (x * 10 ^ 10 + y)) % 10 ^ 20) / 10 ^ 10 : Nat) : Int)) (by omega) ?_
    refine r_put (fs' := [_, _, _, _, _, _, _, _, _, _, _, _, _, _, _, _, _, _, _, _, _, _, _, _, _, _, _, _]) hk fl_Mod_118 ft_Mod_3 (dk_at D_Mod_add 27 rfl) ?_ (hw := up_s)
    refine r_we up_up ?_
    refine r_aload_n (i := 0) hk (dk_at D_Mod_add 28 rfl) rfl rfl ?_
    refine r_aload_n (i := 0) hk (dk_at D_Mod_add 29 rfl) rfl rfl ?_
    refine r_get hk fl_Mod_121 (dk_at D_Mod_add 30 rfl) ?_ (hw := up_s)
    refine r_if_neB (t := 69) hk (dk_at D_Mod_add 31 rfl) (by decide) (fun c_57 => ?_) (fun c_57 => ?_)
    · rw [show (ov || decide (10 ^ 20 ≤ A + (x * 10 ^ 10 + y))) = true by rw [c_57]; rfl]
      refine r_iconst hk (dk_at D_Mod_add 36 rfl) ?_
      refine r_goto (t := 74) hk (dk_at D_Mod_add 37 rfl) (by decide) ?_
      refine r_put (fs' := [_, _, _, _, _, _, _, _, _, _, _, _, _, _, _, _, _, _, _, _, _, _, _, _, _, _, _, _]) hk fl_Mod_121 ft_Mod_8 (dk_at D_Mod_add 39 rfl) ?_ (hn := rfl) (hfit := rfl) (hw := up_s)
      refine r_we up_up ?_
      exact r_vret hk (dk_at D_Mod_add 40 rfl) ⟨rfl, rfl, h.sc (ov' := true)⟩
    · refine r_lload (i := 6) hk (dk_at D_Mod_add 32 rfl) rfl ?_
      refine r_ldc2 hk kl_Mod_65 (dk_at D_Mod_add 33 rfl) ?_
      refine r_lc_lt (t := 73) hk (dk_at D_Mod_add 34 rfl) (dk_at D_Mod_add 35 rfl) (by decide) (by omega) (by omega) (fun c_66 => ?_) (fun c_66 => ?_)
      · rw [show (ov || decide (10 ^ 20 ≤ A + (x * 10 ^ 10 + y))) = false by rw [c_57, decide_eq_false (by omega)]; rfl]
        refine r_iconst hk (dk_at D_Mod_add 38 rfl) ?_
        refine r_put (fs' := [_, _, _, _, _, _, _, _, _, _, _, _, _, _, _, _, _, _, _, _, _, _, _, _, _, _, _, _]) hk fl_Mod_121 ft_Mod_8 (dk_at D_Mod_add 39 rfl) ?_ (hn := rfl) (hfit := rfl) (hw := up_s)
        refine r_we up_up ?_
        first | exact r_vret hk (dk_at D_Mod_add 40 rfl) ⟨rfl, rfl, h.sc (ov' := true)⟩ | exact r_vret hk (dk_at D_Mod_add 40 rfl) ⟨rfl, rfl, h.sc (ov' := false)⟩
      · rw [show (ov || decide (10 ^ 20 ≤ A + (x * 10 ^ 10 + y))) = true by rw [c_57, decide_eq_true (by omega)]; rfl]
        refine r_iconst hk (dk_at D_Mod_add 36 rfl) ?_
        refine r_goto (t := 74) hk (dk_at D_Mod_add 37 rfl) (by decide) ?_
        refine r_put (fs' := [_, _, _, _, _, _, _, _, _, _, _, _, _, _, _, _, _, _, _, _, _, _, _, _, _, _, _, _]) hk fl_Mod_121 ft_Mod_8 (dk_at D_Mod_add 39 rfl) ?_ (hn := rfl) (hfit := rfl) (hw := up_s)
        refine r_we up_up ?_
        first | exact r_vret hk (dk_at D_Mod_add 40 rfl) ⟨rfl, rfl, h.sc (ov' := true)⟩ | exact r_vret hk (dk_at D_Mod_add 40 rfl) ⟨rfl, rfl, h.sc (ov' := false)⟩
theorem sl_step {A n : Nat} : A * 10 ^ n % 10 ^ 20 * 10 % 10 ^ 20 = A * 10 ^ (n + 1) % 10 ^ 20 := by
  have e : A * 10 ^ (n + 1) = A * 10 ^ n * 10 := by rw [Nat.pow_succ, Nat.mul_assoc]
  rw [e]
  generalize A * 10 ^ n = X
  omega
theorem c_Mod_shiftLeft (G : Gt) {w0 w : Wt} {ad : Ix → Nat} {cd : Int} {dv : Int} {mn : Bool} {dm : Bool} {ov : Bool} {nx : Int} {fl : Int} {t : Nat} {qn : Nat} {on : Nat} {m : Nat} {fu : Bool} {c : Nat → Nat → Nat} {g : Nat → Bool} {q : Nat → Nat × Bool} {o : Nat → Nat × Bool} {ln : Nat → Ln} {r : Nat → Bool} {p : Nat → Int} {hd : Nat → Bool} {at_ : Nat → Int} {wr : Nat → Int} {A : Nat} {n : Nat} (h : TX w0 ad w cd (((A / 10 ^ 10 : Nat) : Int)) (((A % 10 ^ 10 : Nat) : Int)) dv mn dm ov nx fl t qn on m fu c g q o ln r p hd at_ wr) (hA : A < 10 ^ 20) (hn : n ≤ 20) : Mt G y_Mod_shiftLeft w_Mod_shiftLeft 0 0 0 [.ref (ad (50, 0)), .int (i32 n)] ad w (fun rv ad' w' => rv = none ∧ ad' = ad ∧ TX w0 ad w' cd ((((A * 10 ^ n % 10 ^ 20) / 10 ^ 10 : Nat) : Int)) ((((A * 10 ^ n % 10 ^ 20) % 10 ^ 10 : Nat) : Int)) dv mn dm ov nx fl t qn on m fu c g q o ln r p hd at_ wr) noT := by
  refine Mt.to [some (.ref (ad (50, 0))), some (.int (i32 n)), none] (fun K hk hR hin => ?_)
  have loop : ∀ k : Nat, k ≤ n → ∀ (w : Wt) (z : Int) (B : Nat), z = (k : Int) → B = A * 10 ^ k % 10 ^ 20 → TX w0 ad w cd (((B / 10 ^ 10 : Nat) : Int)) (((B % 10 ^ 10 : Nat) : Int)) dv mn dm ov nx fl t qn on m fu c g q o ln r p hd at_ wr → V G K 3 (QE G K (fun rv ad' w' => rv = none ∧ ad' = ad ∧ TX w0 ad w' cd ((((A * 10 ^ n % 10 ^ 20) / 10 ^ 10 : Nat) : Int)) ((((A * 10 ^ n % 10 ^ 20) % 10 ^ 10 : Nat) : Int)) dv mn dm ov nx fl t qn on m fu c g q o ln r p hd at_ wr) noT 0 0) 0 0 2 [some (.ref (ad (50, 0))), some (.int (i32 n)), some (.int (i32 z))] [] ad w := by
    refine nup n (fun k hk2 ih w z B hz hB h => ?_)
    subst hz
    have hB20 : B < 10 ^ 20 := by rw [hB]; exact Nat.mod_lt _ (by decide)
    refine r_iload_n (i := 2) hk (dk_at D_Mod_shiftLeft 2 rfl) rfl rfl ?_
    refine r_iload_n (i := 1) hk (dk_at D_Mod_shiftLeft 3 rfl) rfl rfl ?_
    refine r_icmp_ge (t := 54) hk (dk_at D_Mod_shiftLeft 4 rfl) (by decide) (by omega) (by omega) (fun c_4 => ?_) (fun c_4 => ?_)
    · obtain rfl : k = n := by omega
      exact r_vret hk (dk_at D_Mod_shiftLeft 28 rfl) ⟨rfl, rfl, by rw [← hB]; exact h⟩
    · refine r_in h.ob_ ?_
      refine r_aload_n (i := 0) hk (dk_at D_Mod_shiftLeft 5 rfl) rfl rfl ?_
      refine r_aload_n (i := 0) hk (dk_at D_Mod_shiftLeft 6 rfl) rfl rfl ?_
      refine r_get hk fl_Mod_118 (dk_at D_Mod_shiftLeft 7 rfl) ?_ (hw := up_s)
      refine r_ldc2 hk kl_Mod_67 (dk_at D_Mod_shiftLeft 8 rfl) ?_
      refine r_lmul hk (dk_at D_Mod_shiftLeft 9 rfl) ?_
      refine r_ldc2 hk kl_Mod_65 (dk_at D_Mod_shiftLeft 10 rfl) ?_
      refine r_lrem hk (dk_at D_Mod_shiftLeft 11 rfl) (by omega) (by omega) ?_
      refine r_aload_n (i := 0) hk (dk_at D_Mod_shiftLeft 12 rfl) rfl rfl ?_
      refine r_get hk fl_Mod_115 (dk_at D_Mod_shiftLeft 13 rfl) ?_ (hw := up_s)
      refine r_ldc2 hk kl_Mod_124 (dk_at D_Mod_shiftLeft 14 rfl) ?_
      refine r_ldiv hk (dk_at D_Mod_shiftLeft 15 rfl) (by omega) (by omega) ?_
      refine r_ladd hk (dk_at D_Mod_shiftLeft 16 rfl) ?_
      refine r_topl (x' := (((B * 10 % 10 ^ 20) / 10 ^ 10 : Nat) : Int)) (by omega) ?_
      refine r_put (fs' := [_, _, _, _, _, _, _, _, _, _, _, _, _, _, _, _, _, _, _, _, _, _, _, _, _, _, _, _]) hk fl_Mod_118 ft_Mod_3 (dk_at D_Mod_shiftLeft 17 rfl) ?_ (hw := up_s)
      refine r_we up_up ?_
      refine r_aload_n (i := 0) hk (dk_at D_Mod_shiftLeft 18 rfl) rfl rfl ?_
      refine r_aload_n (i := 0) hk (dk_at D_Mod_shiftLeft 19 rfl) rfl rfl ?_
      refine r_get hk fl_Mod_115 (dk_at D_Mod_shiftLeft 20 rfl) ?_ (hw := up_s)
      refine r_ldc2 hk kl_Mod_67 (dk_at D_Mod_shiftLeft 21 rfl) ?_
      refine r_lmul hk (dk_at D_Mod_shiftLeft 22 rfl) ?_
      refine r_ldc2 hk kl_Mod_65 (dk_at D_Mod_shiftLeft 23 rfl) ?_
      refine r_lrem hk (dk_at D_Mod_shiftLeft 24 rfl) (by omega) (by omega) ?_
      refine r_topl (x' := (((B * 10 % 10 ^ 20) % 10 ^ 10 : Nat) : Int)) (by omega) ?_
      refine r_put (fs' := [_, _, _, _, _, _, _, _, _, _, _, _, _, _, _, _, _, _, _, _, _, _, _, _, _, _, _, _]) hk fl_Mod_115 ft_Mod_4 (dk_at D_Mod_shiftLeft 25 rfl) ?_ (hw := up_s)
      refine r_we up_up ?_
      refine r_iinc (i := 2) (ls' := [_, _, _]) hk (dk_at D_Mod_shiftLeft 26 rfl) rfl rfl rfl rfl ?_
      refine r_goto (t := 2) hk (dk_at D_Mod_shiftLeft 27 rfl) (by decide) ?_
      exact ih (by omega) _ _ (B * 10 % 10 ^ 20) (by omega) (by rw [hB]; exact sl_step) h.sc
  refine r_iconst hk (dk_at D_Mod_shiftLeft 0 rfl) ?_
  refine r_istore_n (i := 2) (ls' := [_, _, _]) hk (dk_at D_Mod_shiftLeft 1 rfl) rfl rfl rfl rfl ?_
  exact loop 0 (Nat.zero_le _) w _ A rfl (by rw [Nat.pow_zero, Nat.mul_one, Nat.mod_eq_of_lt hA]) h
theorem c_Mod_shiftRight (G : Gt) {w0 w : Wt} {ad : Ix → Nat} {cd : Int} {dv : Int} {mn : Bool} {dm : Bool} {ov : Bool} {nx : Int} {fl : Int} {t : Nat} {qn : Nat} {on : Nat} {m : Nat} {fu : Bool} {c : Nat → Nat → Nat} {g : Nat → Bool} {q : Nat → Nat × Bool} {o : Nat → Nat × Bool} {ln : Nat → Ln} {r : Nat → Bool} {p : Nat → Int} {hd : Nat → Bool} {at_ : Nat → Int} {wr : Nat → Int} {A : Nat} {n : Nat} {rd : Bool} (h : TX w0 ad w cd (((A / 10 ^ 10 : Nat) : Int)) (((A % 10 ^ 10 : Nat) : Int)) dv mn dm ov nx fl t qn on m fu c g q o ln r p hd at_ wr) (hA : A < 10 ^ 20) (hn : n ≤ 20) (hrd : rd = true → 1 ≤ n) : Mt G y_Mod_shiftRight w_Mod_shiftRight 0 0 0 [.ref (ad (50, 0)), .int (i32 n), .int (i32 (b2i rd))] ad w (fun rv ad' w' => rv = none ∧ ad' = ad ∧ TX w0 ad w' cd ((((A / 10 ^ n + (if rd = true ∧ 5 ≤ dgt A (n - 1) then 1 else 0)) / 10 ^ 10 : Nat) : Int)) ((((A / 10 ^ n + (if rd = true ∧ 5 ≤ dgt A (n - 1) then 1 else 0)) % 10 ^ 10 : Nat) : Int)) dv mn dm ov nx fl t qn on m fu c g q o ln r p hd at_ wr) noT := by
  refine Mt.to [some (.ref (ad (50, 0))), some (.int (i32 n)), some (.int (i32 (b2i rd))), none, none] (fun K hk hR hin => ?_)
  have loop : ∀ k : Nat, k ≤ n → ∀ (w : Wt) (z u : Int) (B : Nat), z = (k : Int) → B = A / 10 ^ k → u = (if k = 0 then 0 else (dgt A (k - 1) : Int)) → TX w0 ad w cd (((B / 10 ^ 10 : Nat) : Int)) (((B % 10 ^ 10 : Nat) : Int)) dv mn dm ov nx fl t qn on m fu c g q o ln r p hd at_ wr → V G K 5 (QE G K (fun rv ad' w' => rv = none ∧ ad' = ad ∧ TX w0 ad w' cd ((((A / 10 ^ n + (if rd = true ∧ 5 ≤ dgt A (n - 1) then 1 else 0)) / 10 ^ 10 : Nat) : Int)) ((((A / 10 ^ n + (if rd = true ∧ 5 ≤ dgt A (n - 1) then 1 else 0)) % 10 ^ 10 : Nat) : Int)) dv mn dm ov nx fl t qn on m fu c g q o ln r p hd at_ wr) noT 0 0) 0 0 5 [some (.ref (ad (50, 0))), some (.int (i32 n)), some (.int (i32 (b2i rd))), some (.int (i32 u)), some (.int (i32 z))] [] ad w := by
    refine nup n (fun k hk2 ih w z u B hz hB hu h => ?_)
    subst hz
    have hB20 : B < 10 ^ 20 := by rw [hB]; exact Nat.lt_of_le_of_lt (Nat.div_le_self _ _) hA
    have hur : 0 ≤ u ∧ u < 10 := by
      have := dgt_lt A (k - 1)
      rw [hu]; split <;> omega
    refine r_iload (i := 4) hk (dk_at D_Mod_shiftRight 4 rfl) rfl ?_
    refine r_iload_n (i := 1) hk (dk_at D_Mod_shiftRight 5 rfl) rfl rfl ?_
    refine r_icmp_ge (t := 64) hk (dk_at D_Mod_shiftRight 6 rfl) (by decide) (by omega) (by omega) (fun c_8 => ?_) (fun c_8 => ?_)
    · obtain rfl : k = n := by omega
      refine r_iload_n (i := 2) hk (dk_at D_Mod_shiftRight 34 rfl) rfl rfl ?_
      refine r_if_eqB (t := 73) hk (dk_at D_Mod_shiftRight 35 rfl) (by decide) (fun c_65 => ?_) (fun c_65 => ?_)
      · rw [if_neg (fun z => by rw [c_65] at z; cases z.1), Nat.add_zero, ← hB]
        exact r_vret hk (dk_at D_Mod_shiftRight 39 rfl) ⟨rfl, rfl, h⟩
      · have hn1 := hrd c_65
        rw [if_neg (by omega)] at hu
        refine r_iload_n (i := 3) hk (dk_at D_Mod_shiftRight 36 rfl) rfl rfl ?_
        refine r_iconst hk (dk_at D_Mod_shiftRight 37 rfl) ?_
        refine r_icmp_ge (t := 74) hk (dk_at D_Mod_shiftRight 38 rfl) (by decide) (by omega) (by omega) (fun c_70 => ?_) (fun c_70 => ?_)
        · rw [if_pos ⟨c_65, by omega⟩, ← hB]
          have hB19 : B < 10 ^ 19 := by
            rw [hB, Nat.div_lt_iff_lt_mul (Nat.pow_pos (by decide))]
            refine Nat.lt_of_lt_of_le hA ?_
            rw [← Nat.pow_add]
            exact p_le (by omega)
          refine r_in h.ob_ ?_
          refine r_aload_n (i := 0) hk (dk_at D_Mod_shiftRight 40 rfl) rfl rfl ?_
          refine r_dup hk (dk_at D_Mod_shiftRight 41 rfl) rfl ?_
          refine r_get hk fl_Mod_115 (dk_at D_Mod_shiftRight 42 rfl) ?_ (hw := up_s)
          refine r_lconst (z := 1) hk (dk_at D_Mod_shiftRight 43 rfl) rfl ?_
          refine r_ladd hk (dk_at D_Mod_shiftRight 44 rfl) ?_
          refine r_put (fs' := [_, _, _, _, _, _, _, _, _, _, _, _, _, _, _, _, _, _, _, _, _, _, _, _, _, _, _, _]) hk fl_Mod_115 ft_Mod_4 (dk_at D_Mod_shiftRight 45 rfl) ?_ (hw := up_s)
          refine r_we up_up ?_
          refine r_aload_n (i := 0) hk (dk_at D_Mod_shiftRight 46 rfl) rfl rfl ?_
          refine r_dup hk (dk_at D_Mod_shiftRight 47 rfl) rfl ?_
          refine r_get hk fl_Mod_118 (dk_at D_Mod_shiftRight 48 rfl) ?_ (hw := up_s)
          refine r_aload_n (i := 0) hk (dk_at D_Mod_shiftRight 49 rfl) rfl rfl ?_
          refine r_get hk fl_Mod_115 (dk_at D_Mod_shiftRight 50 rfl) ?_ (hw := up_s)
          refine r_ldc2 hk kl_Mod_65 (dk_at D_Mod_shiftRight 51 rfl) ?_
          refine r_ldiv hk (dk_at D_Mod_shiftRight 52 rfl) (by omega) (by omega) ?_
          refine r_ladd hk (dk_at D_Mod_shiftRight 53 rfl) ?_
          refine r_topl (x' := (((B + 1) / 10 ^ 10 : Nat) : Int)) (by omega) ?_
          refine r_put (fs' := [_, _, _, _, _, _, _, _, _, _, _, _, _, _, _, _, _, _, _, _, _, _, _, _, _, _, _, _]) hk fl_Mod_118 ft_Mod_3 (dk_at D_Mod_shiftRight 54 rfl) ?_ (hw := up_s)
          refine r_we up_up ?_
          refine r_aload_n (i := 0) hk (dk_at D_Mod_shiftRight 55 rfl) rfl rfl ?_
          refine r_dup hk (dk_at D_Mod_shiftRight 56 rfl) rfl ?_
          refine r_get hk fl_Mod_115 (dk_at D_Mod_shiftRight 57 rfl) ?_ (hw := up_s)
          refine r_ldc2 hk kl_Mod_65 (dk_at D_Mod_shiftRight 58 rfl) ?_
          refine r_lrem hk (dk_at D_Mod_shiftRight 59 rfl) (by omega) (by omega) ?_
          refine r_topl (x' := (((B + 1) % 10 ^ 10 : Nat) : Int)) (by omega) ?_
          refine r_put (fs' := [_, _, _, _, _, _, _, _, _, _, _, _, _, _, _, _, _, _, _, _, _, _, _, _, _, _, _, _]) hk fl_Mod_115 ft_Mod_4 (dk_at D_Mod_shiftRight 60 rfl) ?_ (hw := up_s)
          refine r_we up_up ?_
          exact r_vret hk (dk_at D_Mod_shiftRight 61 rfl) ⟨rfl, rfl, by have h9 := h.sc (U' := (((B + 1) / 10 ^ 10 : Nat) : Int)) (L' := (((B + 1) % 10 ^ 10 : Nat) : Int)) (cd' := cd) (mn' := mn) (dv' := dv) (dm' := dm) (ov' := ov) (nx' := nx) (fl' := fl) (t' := t) (fu' := fu); exact h9⟩
        · rw [if_neg (fun z => by omega), Nat.add_zero, ← hB]
          exact r_vret hk (dk_at D_Mod_shiftRight 39 rfl) ⟨rfl, rfl, h⟩
    · refine r_in h.ob_ ?_
      refine r_aload_n (i := 0) hk (dk_at D_Mod_shiftRight 7 rfl) rfl rfl ?_
      refine r_get hk fl_Mod_115 (dk_at D_Mod_shiftRight 8 rfl) ?_ (hw := up_s)
      refine r_ldc2 hk kl_Mod_67 (dk_at D_Mod_shiftRight 9 rfl) ?_
      refine r_lrem hk (dk_at D_Mod_shiftRight 10 rfl) (by omega) (by omega) ?_
      refine r_l2i hk (dk_at D_Mod_shiftRight 11 rfl) ?_
      refine r_istore_n (i := 3) (ls' := [_, _, _, _, _]) hk (dk_at D_Mod_shiftRight 12 rfl) rfl rfl rfl rfl ?_
      refine r_aload_n (i := 0) hk (dk_at D_Mod_shiftRight 13 rfl) rfl rfl ?_
      refine r_aload_n (i := 0) hk (dk_at D_Mod_shiftRight 14 rfl) rfl rfl ?_
      refine r_get hk fl_Mod_115 (dk_at D_Mod_shiftRight 15 rfl) ?_ (hw := up_s)
      refine r_ldc2 hk kl_Mod_67 (dk_at D_Mod_shiftRight 16 rfl) ?_
      refine r_ldiv hk (dk_at D_Mod_shiftRight 17 rfl) (by omega) (by omega) ?_
      refine r_aload_n (i := 0) hk (dk_at D_Mod_shiftRight 18 rfl) rfl rfl ?_
      refine r_get hk fl_Mod_118 (dk_at D_Mod_shiftRight 19 rfl) ?_ (hw := up_s)
      refine r_ldc2 hk kl_Mod_67 (dk_at D_Mod_shiftRight 20 rfl) ?_
      refine r_lrem hk (dk_at D_Mod_shiftRight 21 rfl) (by omega) (by omega) ?_
      refine r_ldc2 hk kl_Mod_124 (dk_at D_Mod_shiftRight 22 rfl) ?_
      refine r_lmul hk (dk_at D_Mod_shiftRight 23 rfl) ?_
      refine r_ladd hk (dk_at D_Mod_shiftRight 24 rfl) ?_
      refine r_topl (x' := (((B / 10) % 10 ^ 10 : Nat) : Int)) (by omega) ?_
      refine r_put (fs' := [_, _, _, _, _, _, _, _, _, _, _, _, _, _, _, _, _, _, _, _, _, _, _, _, _, _, _, _]) hk fl_Mod_115 ft_Mod_4 (dk_at D_Mod_shiftRight 25 rfl) ?_ (hw := up_s)
      refine r_we up_up ?_
      refine r_aload_n (i := 0) hk (dk_at D_Mod_shiftRight 26 rfl) rfl rfl ?_
      refine r_dup hk (dk_at D_Mod_shiftRight 27 rfl) rfl ?_
      refine r_get hk fl_Mod_118 (dk_at D_Mod_shiftRight 28 rfl) ?_ (hw := up_s)
      refine r_ldc2 hk kl_Mod_67 (dk_at D_Mod_shiftRight 29 rfl) ?_
      refine r_ldiv hk (dk_at D_Mod_shiftRight 30 rfl) (by omega) (by omega) ?_
      refine r_topl (x' := (((B / 10) / 10 ^ 10 : Nat) : Int)) (by omega) ?_
      refine r_put (fs' := [_, _, _, _, _, _, _, _, _, _, _, _, _, _, _, _, _, _, _, _, _, _, _, _, _, _, _, _]) hk fl_Mod_118 ft_Mod_3 (dk_at D_Mod_shiftRight 31 rfl) ?_ (hw := up_s)
      refine r_we up_up ?_
      refine r_iinc (i := 4) (ls' := [_, _, _, _, _]) hk (dk_at D_Mod_shiftRight 32 rfl) rfl rfl rfl rfl ?_
      refine r_goto (t := 5) hk (dk_at D_Mod_shiftRight 33 rfl) (by decide) ?_
      exact ih (by omega) _ _ _ (B / 10) (by omega) (by rw [hB, Nat.div_div_eq_div_mul, Nat.pow_succ]) (by rw [if_neg (by omega), Nat.add_sub_cancel]; show _ = ((A / 10 ^ k % 10 : Nat) : Int); rw [← hB]; omega) h.sc
  refine r_iconst hk (dk_at D_Mod_shiftRight 0 rfl) ?_
  refine r_istore_n (i := 3) (ls' := [_, _, _, _, _]) hk (dk_at D_Mod_shiftRight 1 rfl) rfl rfl rfl rfl ?_
  refine r_iconst hk (dk_at D_Mod_shiftRight 2 rfl) ?_
  refine r_istore (i := 4) (ls' := [_, _, _, _, _]) hk (dk_at D_Mod_shiftRight 3 rfl) rfl rfl rfl ?_
  exact loop 0 (Nat.zero_le _) w _ _ A rfl (by rw [Nat.pow_zero, Nat.div_one]) rfl h
