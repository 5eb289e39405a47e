/-! DrumMachine: word, flip, card, reserve, clear, place, register, sign, get, output -/
theorem c_Mach_word (G : Gt) {w0 w : Wt} {ad : Ix → Nat} {c : Nat → Nat → Nat} {g : Nat → Bool} {t : Nat} {A : Nat} {mn : Bool} {ov : Bool} {dv : Nat} {dm : Bool} {nx : Nat} {fl : Int} {q : Nat → Nat × Bool} {qn : Nat} {o : Nat → Nat × Bool} {on : Nat} {ln : Nat → Int × Int × Int × Int} {m : Nat} {r : Nat → Bool} {p : Nat → Int} {fc : Nat} {z v : Int} {s : Bool} (hz : -2147483648 ≤ z ∧ z < 2147483648) (hv : -9223372036854775808 ≤ v ∧ v < 9223372036854775808) (h : WW w0 ad w (c, g, t, A, mn, ov, dv, dm, nx, fl, q, qn, o, on, ln, m, r, p, fc)) : Mt G y_Mach_word w_Mach_word 7 2 12 [.ref (ad (0, 0)), .int (i32 z), .long (i64 v), .int (i32 (b2i s))] ad w (fun rv ad' w' => rv = none ∧ ad' = ad ∧ WW w0 ad w' (fu_ c z.toNat (cdv v.toNat), fu_ g z.toNat s, t, A, mn, ov, dv, dm, nx, fl, q, qn, o, on, ln, m, r, p, fc) ∧ ((0 ≤ z ∧ z < 200) ∧ (0 ≤ v ∧ v ≤ 9999999999))) (fun C ad' w' => ad' = ad ∧ WW w0 ad w' (c, g, t, A, mn, ov, dv, dm, nx, fl, q, qn, o, on, ln, m, r, p, fc) ∧ ((C = "java/lang/IndexOutOfBoundsException" ∧ ¬ (0 ≤ z ∧ z < 200)) ∨ (C = "java/lang/IllegalArgumentException" ∧ (0 ≤ z ∧ z < 200) ∧ ¬ (0 ≤ v ∧ v ≤ 9999999999)))) := by
  refine Mt.to [some (.ref (ad (0, 0))), some (.int (i32 z)), some (.long (i64 v)), none, some (.int (i32 (b2i s)))] (fun K hk hR hin => ?_)
  have h0 := h.m0
  have mg : (0 ≤ z ∧ z < 200) → ∀ b : Bool, b = decide (0 ≤ v ∧ v ≤ 9999999999) → V G K 5 (QE G K (fun rv ad' w' => rv = none ∧ ad' = ad ∧ WW w0 ad w' (fu_ c z.toNat (cdv v.toNat), fu_ g z.toNat s, t, A, mn, ov, dv, dm, nx, fl, q, qn, o, on, ln, m, r, p, fc) ∧ ((0 ≤ z ∧ z < 200) ∧ (0 ≤ v ∧ v ≤ 9999999999))) (fun C ad' w' => ad' = ad ∧ WW w0 ad w' (c, g, t, A, mn, ov, dv, dm, nx, fl, q, qn, o, on, ln, m, r, p, fc) ∧ ((C = "java/lang/IndexOutOfBoundsException" ∧ ¬ (0 ≤ z ∧ z < 200)) ∨ (C = "java/lang/IllegalArgumentException" ∧ (0 ≤ z ∧ z < 200) ∧ ¬ (0 ≤ v ∧ v ≤ 9999999999)))) 2 12) 1 6 26 [some (.ref (ad (0, 0))), some (.int (i32 z)), some (.long (i64 v)), none, some (.int (i32 (b2i s)))] [.int (i32 (b2i b))] ad w := by
    intro hza b hb
    refine r_need hk hR ml_Mach_237 (dk_at D_Mach_word 14 rfl) (fun c_26 => ⟨rfl, h, Or.inr ⟨rfl, hza, of_decide_eq_false (by rw [← hb]; exact c_26)⟩⟩) (fun c_26 => ?_)
    have hc : 0 ≤ v ∧ v ≤ 9999999999 := of_decide_eq_true (by rw [← hb]; exact c_26)
    obtain ⟨a, rfl⟩ : ∃ n : Nat, z = (n : Int) := ⟨z.toNat, by omega⟩
    obtain ⟨u, rfl⟩ : ∃ n : Nat, v = (n : Int) := ⟨v.toNat, by omega⟩
    have ha : a < 200 := by omega
    obtain ⟨x14, f14, e14, e15⟩ := h.s14
    refine r_aload_n (i := 0) hk (dk_at D_Mach_word 15 rfl) rfl rfl ?_
    refine r_get hk fl_Mach_83 (dk_at D_Mach_word 16 rfl) ?_ (hw := h0)
    refine r_lload_n (i := 2) hk (dk_at D_Mach_word 17 rfl) rfl rfl ?_
    refine r_iload (i := 4) hk (dk_at D_Mach_word 18 rfl) rfl ?_
    refine r_callVv hk hR m_Word_set s_Word_set ml_Mach_255 (dk_at D_Mach_word 19 rfl) (c_Word_set G (v := u) (sg := s) e14 e15 (by omega)) ?_ (i := (14, 0)) (hw := e14)
    refine r_gp (fun w => WW w0 ad w (c, g, t, A, mn, ov, dv, dm, nx, fl, q, qn, o, on, ln, m, r, p, fc) ∧ tW ad w (14, 0) (15, 0) u s) ⟨h.read, up_s, (up_n (by intro e; cases e)).trans up_s⟩ (fun w h => ?_)
    obtain ⟨h, h14⟩ := h
    have h0 := h.m0
    refine r_aload_n (i := 0) hk (dk_at D_Mach_word 20 rfl) rfl rfl ?_
    refine r_get hk fl_Mach_62 (dk_at D_Mach_word 21 rfl) ?_ (hw := h0)
    refine r_iload_n (i := 1) hk (dk_at D_Mach_word 22 rfl) rfl rfl ?_
    refine r_aload_n (i := 0) hk (dk_at D_Mach_word 23 rfl) rfl rfl ?_
    refine r_get hk fl_Mach_83 (dk_at D_Mach_word 24 rfl) ?_ (hw := h0)
    refine r_callVv hk hR m_Drum_put s_Drum_put ml_Mach_175 (dk_at D_Mach_word 25 rfl) (c_Drum_put G (a := a) h.d1 h.d2 (h.d3 ha) ha h14.1 h14.2) ?_ (i := (1, 0)) (hw := h.d1)
    exact r_vret hk (dk_at D_Mach_word 26 rfl) ⟨rfl, rfl, h.row, hza, hc⟩
  refine r_iload_n (i := 1) hk (dk_at D_Mach_word 0 rfl) rfl rfl ?_
  refine r_callS hk hR m_Mach_isAddress s_Mach_isAddress ml_Mach_184 (dk_at D_Mach_word 1 rfl) (c_Mach_isAddress G (z := z) hz) ?_
  refine r_must hk hR ml_Mach_250 (dk_at D_Mach_word 2 rfl) (fun c_4 => ⟨rfl, h, Or.inl ⟨rfl, isA_f.mp c_4⟩⟩) (fun c_4 => ?_)
  have hza := isA_t.mp c_4
  refine r_lload_n (i := 2) hk (dk_at D_Mach_word 3 rfl) rfl rfl ?_
  refine r_lconst (z := 0) hk (dk_at D_Mach_word 4 rfl) rfl ?_
  refine r_lc_lt (t := 25) hk (dk_at D_Mach_word 5 rfl) (dk_at D_Mach_word 6 rfl) (by decide) (by omega) (by omega) (fun c_10 => ?_) (fun c_10 => ?_)
  · refine r_iconst hk (dk_at D_Mach_word 13 rfl) ?_
    exact mg hza false (decide_eq_false (by omega)).symm
  · refine r_lload_n (i := 2) hk (dk_at D_Mach_word 7 rfl) rfl rfl ?_
    refine r_ldc2 hk kl_Mach_253 (dk_at D_Mach_word 8 rfl) ?_
    refine r_lc_gt (t := 25) hk (dk_at D_Mach_word 9 rfl) (dk_at D_Mach_word 10 rfl) (by decide) (by omega) (by omega) (fun c_18 => ?_) (fun c_18 => ?_)
    · refine r_iconst hk (dk_at D_Mach_word 13 rfl) ?_
      exact mg hza false (decide_eq_false (by omega)).symm
    · refine r_iconst hk (dk_at D_Mach_word 11 rfl) ?_
      refine r_goto (t := 26) hk (dk_at D_Mach_word 12 rfl) (by decide) ?_
      exact mg hza true (decide_eq_true (by omega)).symm
theorem xr7 : ∀ a, a < 128 → ∀ b, b < 7 → i32 ((a : Nat) : Int) ^^^ i32 ((2 ^ b : Nat) : Int) = i32 ((a ^^^ 2 ^ b : Nat) : Int) ∧ a ^^^ 2 ^ b < 128 := by decide +kernel
theorem updV_rwf {f : Nat → Nat} {sg : Bool} {d x : Nat} (hd : d < 10) : updV (rwf f sg) d (.int (i32 x)) = rwf (fu_ f d x) sg := by
  funext k
  unfold updV rwf fu_
  by_cases h : k = d
  · subst h; rw [if_pos rfl, if_pos rfl, Nat.blt_eq.mpr hd]; rfl
  · rw [if_neg h, if_neg h]
theorem fu_id {α : Type} {f : Nat → α} {n : Nat} : fu_ f n (f n) = f := by
  funext k
  unfold fu_
  split
  · rename_i h; rw [h]
  · rfl
def flC (c : Nat → Nat → Nat) (a d b : Nat) : Nat → Nat → Nat := fu_ c a (fu_ (c a) d (c a d ^^^ 2 ^ b))
theorem flC_lt {c : Nat → Nat → Nat} (h : ∀ a k, c a k < 128) {a d b : Nat} (hb : b < 7) : ∀ x k, flC c a d b x k < 128 := fun x k => by
  unfold flC
  by_cases e : x = a
  · subst e
    rw [fu_s]
    by_cases e2 : k = d
    · subst e2; rw [fu_s]; exact (xr7 _ (h _ _) b hb).2
    · rw [fu_n e2]; exact h _ _
  · rw [fu_n e]; exact h _ _
theorem c_Mach_flip (G : Gt) {w0 w : Wt} {ad : Ix → Nat} {c : Nat → Nat → Nat} {g : Nat → Bool} {t : Nat} {A : Nat} {mn : Bool} {ov : Bool} {dv : Nat} {dm : Bool} {nx : Nat} {fl : Int} {q : Nat → Nat × Bool} {qn : Nat} {o : Nat → Nat × Bool} {on : Nat} {ln : Nat → Int × Int × Int × Int} {m : Nat} {r : Nat → Bool} {p : Nat → Int} {fc : Nat} {z d b : Int} (hz : -2147483648 ≤ z ∧ z < 2147483648) (hd : -2147483648 ≤ d ∧ d < 2147483648) (hb : -2147483648 ≤ b ∧ b < 2147483648) (h : WW w0 ad w (c, g, t, A, mn, ov, dv, dm, nx, fl, q, qn, o, on, ln, m, r, p, fc)) (hc : ∀ a k, c a k < 128) : Mt G y_Mach_flip w_Mach_flip 7 1 6 [.ref (ad (0, 0)), .int (i32 z), .int (i32 d), .int (i32 b)] ad w (fun rv ad' w' => rv = some (.int (i32 (b2i (vld (flC c z.toNat d.toNat b.toNat z.toNat))))) ∧ ad' = ad ∧ WW w0 ad w' (flC c z.toNat d.toNat b.toNat, g, t, A, mn, ov, dv, dm, nx, fl, q, qn, o, on, ln, m, r, p, fc) ∧ ((0 ≤ z ∧ z < 200) ∧ (0 ≤ d ∧ d < 10) ∧ (0 ≤ b ∧ b < 7))) (fun C ad' w' => ad' = ad ∧ WW w0 ad w' (c, g, t, A, mn, ov, dv, dm, nx, fl, q, qn, o, on, ln, m, r, p, fc) ∧ ((C = "java/lang/IndexOutOfBoundsException" ∧ ¬ ((0 ≤ z ∧ z < 200) ∧ (0 ≤ d ∧ d < 10) ∧ (0 ≤ b ∧ b < 7))))) := by
  refine Mt.to [some (.ref (ad (0, 0))), some (.int (i32 z)), some (.int (i32 d)), some (.int (i32 b))] (fun K hk hR hin => ?_)
  have h0 := h.m0
  have mg : ∀ e : Bool, e = decide ((0 ≤ z ∧ z < 200) ∧ (0 ≤ d ∧ d < 10) ∧ (0 ≤ b ∧ b < 7)) → V G K 4 (QE G K (fun rv ad' w' => rv = some (.int (i32 (b2i (vld (flC c z.toNat d.toNat b.toNat z.toNat))))) ∧ ad' = ad ∧ WW w0 ad w' (flC c z.toNat d.toNat b.toNat, g, t, A, mn, ov, dv, dm, nx, fl, q, qn, o, on, ln, m, r, p, fc) ∧ ((0 ≤ z ∧ z < 200) ∧ (0 ≤ d ∧ d < 10) ∧ (0 ≤ b ∧ b < 7))) (fun C ad' w' => ad' = ad ∧ WW w0 ad w' (c, g, t, A, mn, ov, dv, dm, nx, fl, q, qn, o, on, ln, m, r, p, fc) ∧ ((C = "java/lang/IndexOutOfBoundsException" ∧ ¬ ((0 ≤ z ∧ z < 200) ∧ (0 ≤ d ∧ d < 10) ∧ (0 ≤ b ∧ b < 7))))) 1 6) 0 0 32 [some (.ref (ad (0, 0))), some (.int (i32 z)), some (.int (i32 d)), some (.int (i32 b))] [.int (i32 (b2i e))] ad w := by
    intro e he
    refine r_must hk hR ml_Mach_250 (dk_at D_Mach_flip 16 rfl) (fun c_32 => ⟨rfl, h, ⟨rfl, of_decide_eq_false (by rw [← he]; exact c_32)⟩⟩) (fun c_32 => ?_)
    have hh : (0 ≤ z ∧ z < 200) ∧ (0 ≤ d ∧ d < 10) ∧ (0 ≤ b ∧ b < 7) := of_decide_eq_true (by rw [← he]; exact c_32)
    have hh9 := hh
    obtain ⟨h1, h2, h3⟩ := hh
    obtain ⟨a, rfl⟩ : ∃ n : Nat, z = (n : Int) := ⟨z.toNat, by omega⟩
    obtain ⟨k, rfl⟩ : ∃ n : Nat, d = (n : Int) := ⟨d.toNat, by omega⟩
    obtain ⟨j, rfl⟩ : ∃ n : Nat, b = (n : Int) := ⟨b.toNat, by omega⟩
    have ha : a < 200 := by omega
    have hk10 : k < 10 := by omega
    have hj : j < 7 := by omega
    have hd1 := h.d1
    have hd2 := h.d2
    have hd3 := h.d3 ha
    have hx := xr7 (c a k) (hc a k) j hj
    have hck := hc a k
    refine r_aload_n (i := 0) hk (dk_at D_Mach_flip 17 rfl) rfl rfl ?_
    refine r_get hk fl_Mach_62 (dk_at D_Mach_flip 18 rfl) ?_ (hw := h0)
    refine r_getN hk fl_Mach_259 (dk_at D_Mach_flip 19 rfl) ?_
    refine r_iload_n (i := 1) hk (dk_at D_Mach_flip 20 rfl) rfl rfl ?_
    refine r_aaload (ix := a) hk (dk_at D_Mach_flip 21 rfl) ?_
    refine r_iload_n (i := 2) hk (dk_at D_Mach_flip 22 rfl) rfl rfl ?_
    refine r_dup2 hk (dk_at D_Mach_flip 23 rfl) rfl rfl ?_
    refine r_baload (ix := k) hk (dk_at D_Mach_flip 24 rfl) ?_
    refine r_top (rwf_lo hk10) ?_
    refine r_iconst hk (dk_at D_Mach_flip 25 rfl) ?_
    refine r_iload_n (i := 3) hk (dk_at D_Mach_flip 26 rfl) rfl rfl ?_
    refine r_ishl hk (dk_at D_Mach_flip 27 rfl) (shl1 j hj) ?_
    refine r_ixor hk (dk_at D_Mach_flip 28 rfl) hx.1 ?_
    refine r_i2b hk (dk_at D_Mach_flip 29 rfl) (by omega) ?_
    refine r_bastore (ix := k) hk (dk_at D_Mach_flip 30 rfl) ?_
    rw [updV_rwf hk10]
    refine r_gp (fun w => WW w0 ad w (flC c a k j, g, t, A, mn, ov, dv, dm, nx, fl, q, qn, o, on, ln, m, r, p, fc)) (by have h9 := h.row (a := a) (f := fu_ (c a) k (c a k ^^^ 2 ^ j)) (sg := g a); rw [fu_id] at h9; exact h9) (fun w h => ?_)
    have h0 := h.m0
    refine r_aload_n (i := 0) hk (dk_at D_Mach_flip 31 rfl) rfl rfl ?_
    refine r_get hk fl_Mach_62 (dk_at D_Mach_flip 32 rfl) ?_ (hw := h0)
    refine r_iload_n (i := 1) hk (dk_at D_Mach_flip 33 rfl) rfl rfl ?_
    refine r_callV hk hR m_Drum_isValid s_Drum_isValid ml_Mach_147 (dk_at D_Mach_flip 34 rfl) (c_Drum_isValid G h.d1 h.d2 (h.d3 ha) ha (fun x _ => flC_lt hc hj a x)) ?_ (i := (1, 0)) (hw := h.d1)
    exact r_bret (b := (vld (flC c a k j a))) hk (dk_at D_Mach_flip 35 rfl) ⟨rfl, rfl, h, hh9⟩
  refine r_iload_n (i := 1) hk (dk_at D_Mach_flip 0 rfl) rfl rfl ?_
  refine r_callS hk hR m_Mach_isAddress s_Mach_isAddress ml_Mach_184 (dk_at D_Mach_flip 1 rfl) (c_Mach_isAddress G (z := z) hz) ?_
  refine r_if_eqB (t := 31) hk (dk_at D_Mach_flip 2 rfl) (by decide) (fun c_4 => ?_) (fun c_4 => ?_)
  · have := isA_f.mp c_4
    refine r_iconst hk (dk_at D_Mach_flip 15 rfl) ?_
    exact mg false (decide_eq_false (fun q => this q.1)).symm
  · have hza := isA_t.mp c_4
    refine r_iload_n (i := 2) hk (dk_at D_Mach_flip 3 rfl) rfl rfl ?_
    refine r_if_lt (t := 31) hk (dk_at D_Mach_flip 4 rfl) (by decide) (by omega) (fun c_8 => ?_) (fun c_8 => ?_)
    · refine r_iconst hk (dk_at D_Mach_flip 15 rfl) ?_
      exact mg false (decide_eq_false (by omega)).symm
    · refine r_iload_n (i := 2) hk (dk_at D_Mach_flip 5 rfl) rfl rfl ?_
      refine r_bipush hk (dk_at D_Mach_flip 6 rfl) (by decide) ?_
      refine r_icmp_ge (t := 31) hk (dk_at D_Mach_flip 7 rfl) (by decide) (by omega) (by omega) (fun c_14 => ?_) (fun c_14 => ?_)
      · refine r_iconst hk (dk_at D_Mach_flip 15 rfl) ?_
        exact mg false (decide_eq_false (by omega)).symm
      · refine r_iload_n (i := 3) hk (dk_at D_Mach_flip 8 rfl) rfl rfl ?_
        refine r_if_lt (t := 31) hk (dk_at D_Mach_flip 9 rfl) (by decide) (by omega) (fun c_18 => ?_) (fun c_18 => ?_)
        · refine r_iconst hk (dk_at D_Mach_flip 15 rfl) ?_
          exact mg false (decide_eq_false (by omega)).symm
        · refine r_iload_n (i := 3) hk (dk_at D_Mach_flip 10 rfl) rfl rfl ?_
          refine r_bipush hk (dk_at D_Mach_flip 11 rfl) (by decide) ?_
          refine r_icmp_ge (t := 31) hk (dk_at D_Mach_flip 12 rfl) (by decide) (by omega) (by omega) (fun c_24 => ?_) (fun c_24 => ?_)
          · refine r_iconst hk (dk_at D_Mach_flip 15 rfl) ?_
            exact mg false (decide_eq_false (by omega)).symm
          · refine r_iconst hk (dk_at D_Mach_flip 13 rfl) ?_
            refine r_goto (t := 32) hk (dk_at D_Mach_flip 14 rfl) (by decide) ?_
            exact mg true (decide_eq_true (by omega)).symm
theorem WW.addc {w0 w : Wt} {ad : Ix → Nat} {c : Nat → Nat → Nat} {g : Nat → Bool} {t : Nat} {A : Nat} {mn : Bool} {ov : Bool} {dv : Nat} {dm : Bool} {nx : Nat} {fl : Int} {q : Nat → Nat × Bool} {qn : Nat} {o : Nat → Nat × Bool} {on : Nat} {ln : Nat → Int × Int × Int × Int} {m : Nat} {r : Nat → Bool} {p : Nat → Int} {fc : Nat} {v i : Nat} {sg : Bool} (h : WW w0 ad w (c, g, t, A, mn, ov, dv, dm, nx, fl, q, qn, o, on, ln, m, r, p, fc)) (h20 : qn < 20) (hi : i = (fc + qn) % 20) : WW w0 ad (up (up (up w (23, i) (some (da v))) (22, i) (some (wo ad (23, i) sg))) (0, 0) (some (mO ad fc (qn + 1) on nx fl))) (c, g, t, A, mn, ov, dv, dm, nx, fl, fu_ q qn (v, sg), qn + 1, o, on, ln, m, r, p, fc) := by
  obtain ⟨h0, h1, h2, h3, h4, h5, h7, h8⟩ := h
  have hn : ∀ x : Ix, x ≠ (23, i) → x ≠ (22, i) → x ≠ (0, 0) → up (up (up w (23, i) (some (da v))) (22, i) (some (wo ad (23, i) sg))) (0, 0) (some (mO ad fc (qn + 1) on nx fl)) x = w x := fun x a b d => (up_n d).trans ((up_n b).trans (up_n a))
  have e2 : ∀ lo hi, (Nat.blt 23 lo || Nat.blt hi 23) = true → (Nat.blt 22 lo || Nat.blt hi 22) = true → (Nat.blt 0 lo || Nat.blt hi 0) = true → eqOn lo hi w (up (up (up w (23, i) (some (da v))) (22, i) (some (wo ad (23, i) sg))) (0, 0) (some (mO ad fc (qn + 1) on nx fl))) := fun lo hi a b d x y => (eqOn.up d x y).trans ((eqOn.up b x y).trans (eqOn.up a x y))
  have own : tW ad (up (up (up w (23, i) (some (da v))) (22, i) (some (wo ad (23, i) sg))) (0, 0) (some (mO ad fc (qn + 1) on nx fl))) (22, i) (23, i) v sg := ⟨(up_n (by intro e; cases e)).trans up_s, (up_n (by intro e; cases e)).trans ((up_n (by intro e; cases e)).trans up_s)⟩
  have oth : ∀ k, k ≠ i → ∀ f, f = 22 ∨ f = 23 → up (up (up w (23, i) (some (da v))) (22, i) (some (wo ad (23, i) sg))) (0, 0) (some (mO ad fc (qn + 1) on nx fl)) (f, k) = w (f, k) := fun k hk f hf => hn _ (fun e => hk (congrArg Prod.snd e)) (fun e => hk (congrArg Prod.snd e)) (fun e => by have := congrArg Prod.fst e; simp only at this; omega)
  refine ⟨fun j hj => (hn j (fun e => by subst e; revert hj; show ¬ 28 ≤ 23; decide) (fun e => by subst e; revert hj; show ¬ 28 ≤ 22; decide) (fun e => by subst e; revert hj; decide)).trans (h0 j hj), h1.fr (e2 _ _ rfl rfl rfl), h2.fr (e2 _ _ rfl rfl rfl), h3.fr (e2 _ _ rfl rfl rfl), h4.fr (e2 _ _ rfl rfl rfl), h5.fr (e2 _ _ rfl rfl rfl) (e2 _ _ rfl rfl rfl), up_s, ⟨(hn _ (by intro e; cases e) (by intro e; cases e) (by intro e; cases e)).trans h8.1, fun k hk => ?_, fun k hk => ?_⟩⟩
  · by_cases e : k = i
    · subst e; exact own.s
    · exact (h8.2.1 k hk).fr (oth k e 22 (Or.inl rfl)) (oth k e 23 (Or.inr rfl))
  · by_cases e : k = qn
    · subst e; rw [fu_s, ← hi]; exact own
    · rw [fu_n e]; exact (h8.2.2 k (by omega)).fr (oth _ (by omega) 22 (Or.inl rfl)) (oth _ (by omega) 23 (Or.inr rfl))
theorem c_Mach_card (G : Gt) {w0 w : Wt} {ad : Ix → Nat} {c : Nat → Nat → Nat} {g : Nat → Bool} {t : Nat} {A : Nat} {mn : Bool} {ov : Bool} {dv : Nat} {dm : Bool} {nx : Nat} {fl : Int} {q : Nat → Nat × Bool} {qn : Nat} {o : Nat → Nat × Bool} {on : Nat} {ln : Nat → Int × Int × Int × Int} {m : Nat} {r : Nat → Bool} {p : Nat → Int} {fc : Nat} {v : Int} {s : Bool} (hv : -9223372036854775808 ≤ v ∧ v < 9223372036854775808) (h : WW w0 ad w (c, g, t, A, mn, ov, dv, dm, nx, fl, q, qn, o, on, ln, m, r, p, fc)) (hqn : qn ≤ 20) (hfc : fc < 20) : Mt G y_Mach_card w_Mach_card 7 2 12 [.ref (ad (0, 0)), .long (i64 v), .int (i32 (b2i s))] ad w (fun rv ad' w' => rv = some (.int (i32 (qn + 1 : Nat))) ∧ ad' = ad ∧ WW w0 ad w' (c, g, t, A, mn, ov, dv, dm, nx, fl, fu_ q qn (v.toNat, s), qn + 1, o, on, ln, m, r, p, fc) ∧ ((0 ≤ v ∧ v ≤ 9999999999) ∧ qn ≠ 20)) (fun C ad' w' => ad' = ad ∧ WW w0 ad w' (c, g, t, A, mn, ov, dv, dm, nx, fl, q, qn, o, on, ln, m, r, p, fc) ∧ ((C = "java/lang/IllegalArgumentException" ∧ ¬ (0 ≤ v ∧ v ≤ 9999999999)) ∨ (C = "java/lang/IllegalStateException" ∧ (0 ≤ v ∧ v ≤ 9999999999) ∧ qn = 20))) := by
  refine Mt.to [some (.ref (ad (0, 0))), some (.long (i64 v)), none, some (.int (i32 (b2i s)))] (fun K hk hR hin => ?_)
  have h0 := h.m0
  have mg : ∀ b : Bool, b = decide (0 ≤ v ∧ v ≤ 9999999999) → V G K 4 (QE G K (fun rv ad' w' => rv = some (.int (i32 (qn + 1 : Nat))) ∧ ad' = ad ∧ WW w0 ad w' (c, g, t, A, mn, ov, dv, dm, nx, fl, fu_ q qn (v.toNat, s), qn + 1, o, on, ln, m, r, p, fc) ∧ ((0 ≤ v ∧ v ≤ 9999999999) ∧ qn ≠ 20)) (fun C ad' w' => ad' = ad ∧ WW w0 ad w' (c, g, t, A, mn, ov, dv, dm, nx, fl, q, qn, o, on, ln, m, r, p, fc) ∧ ((C = "java/lang/IllegalArgumentException" ∧ ¬ (0 ≤ v ∧ v ≤ 9999999999)) ∨ (C = "java/lang/IllegalStateException" ∧ (0 ≤ v ∧ v ≤ 9999999999) ∧ qn = 20))) 2 12) 0 0 19 [some (.ref (ad (0, 0))), some (.long (i64 v)), none, some (.int (i32 (b2i s)))] [.int (i32 (b2i b))] ad w := by
    intro b hb
    refine r_need hk hR ml_Mach_237 (dk_at D_Mach_card 11 rfl) (fun c_19 => ⟨rfl, h, Or.inl ⟨rfl, of_decide_eq_false (by rw [← hb]; exact c_19)⟩⟩) (fun c_19 => ?_)
    have hc : 0 ≤ v ∧ v ≤ 9999999999 := of_decide_eq_true (by rw [← hb]; exact c_19)
    refine r_aload_n (i := 0) hk (dk_at D_Mach_card 12 rfl) rfl rfl ?_
    refine r_get hk fl_Mach_178 (dk_at D_Mach_card 13 rfl) ?_ (hw := h0)
    refine r_bipush hk (dk_at D_Mach_card 14 rfl) (by decide) ?_
    refine r_icmp_ne (t := 39) hk (dk_at D_Mach_card 15 rfl) (by decide) (by omega) (by omega) (fun c_28 => ?_) (fun c_28 => ?_)
    · obtain ⟨u, rfl⟩ : ∃ n : Nat, v = (n : Int) := ⟨v.toNat, by omega⟩
      have h20 : qn < 20 := by omega
      have h21 := h.c21
      obtain ⟨x22, f22, e22, e23⟩ := h.c22 (k := (fc + qn) % 20) (Nat.mod_lt _ (by decide))
      refine r_aload_n (i := 0) hk (dk_at D_Mach_card 20 rfl) rfl rfl ?_
      refine r_get hk fl_Mach_93 (dk_at D_Mach_card 21 rfl) ?_ (hw := h0)
      refine r_aload_n (i := 0) hk (dk_at D_Mach_card 22 rfl) rfl rfl ?_
      refine r_get hk fl_Mach_181 (dk_at D_Mach_card 23 rfl) ?_ (hw := h0)
      refine r_aload_n (i := 0) hk (dk_at D_Mach_card 24 rfl) rfl rfl ?_
      refine r_get hk fl_Mach_178 (dk_at D_Mach_card 25 rfl) ?_ (hw := h0)
      refine r_iadd hk (dk_at D_Mach_card 26 rfl) ?_
      refine r_bipush hk (dk_at D_Mach_card 27 rfl) (by decide) ?_
      refine r_irem hk (dk_at D_Mach_card 28 rfl) (by omega) (by omega) ?_
      refine r_aaload (ix := ((fc + qn) % 20)) hk (dk_at D_Mach_card 29 rfl) ?_
      refine r_lload_n (i := 1) hk (dk_at D_Mach_card 30 rfl) rfl rfl ?_
      refine r_iload_n (i := 3) hk (dk_at D_Mach_card 31 rfl) rfl rfl ?_
      refine r_callVv hk hR m_Word_set s_Word_set ml_Mach_255 (dk_at D_Mach_card 32 rfl) (c_Word_set G (v := u) (sg := s) (i := (22, (fc + qn) % 20)) (j := (23, (fc + qn) % 20)) e22 e23 (by omega)) ?_ (i := (22, (fc + qn) % 20)) (hw := e22)
      refine r_aload_n (i := 0) hk (dk_at D_Mach_card 33 rfl) rfl rfl ?_
      refine r_dup hk (dk_at D_Mach_card 34 rfl) rfl ?_
      refine r_get hk fl_Mach_178 (dk_at D_Mach_card 35 rfl) ?_ (hw := (up_n (by intro e; cases e)).trans ((up_n (by intro e; cases e)).trans h0))
      refine r_iconst hk (dk_at D_Mach_card 36 rfl) ?_
      refine r_iadd hk (dk_at D_Mach_card 37 rfl) ?_
      refine r_topi (x' := ((qn + 1 : Nat) : Int)) (by omega) ?_
      refine r_put (fs' := [_, _, _, _, _, _, _, _, _, _, _, _, _]) hk fl_Mach_178 ft_Mach_8 (dk_at D_Mach_card 38 rfl) ?_ (hw := (up_n (by intro e; cases e)).trans ((up_n (by intro e; cases e)).trans h0))
      refine r_gp (fun w => WW w0 ad w (c, g, t, A, mn, ov, dv, dm, nx, fl, fu_ q qn (u, s), qn + 1, o, on, ln, m, r, p, fc)) (h.addc h20 rfl) (fun w h => ?_)
      have h0 := h.m0
      refine r_aload_n (i := 0) hk (dk_at D_Mach_card 39 rfl) rfl rfl ?_
      refine r_get hk fl_Mach_178 (dk_at D_Mach_card 40 rfl) ?_ (hw := h0)
      exact r_iret hk (dk_at D_Mach_card 41 rfl) ⟨rfl, rfl, h, hc, by omega⟩
    · exact r_throw_ hk hR ex_ise (dk_at D_Mach_card 16 rfl) (dk_at D_Mach_card 17 rfl) (dk_at D_Mach_card 18 rfl) (dk_at D_Mach_card 19 rfl) ⟨rfl, h, Or.inr ⟨rfl, hc, by omega⟩⟩
  refine r_lload_n (i := 1) hk (dk_at D_Mach_card 0 rfl) rfl rfl ?_
  refine r_lconst (z := 0) hk (dk_at D_Mach_card 1 rfl) rfl ?_
  refine r_lc_lt (t := 18) hk (dk_at D_Mach_card 2 rfl) (dk_at D_Mach_card 3 rfl) (by decide) (by omega) (by omega) (fun c_3 => ?_) (fun c_3 => ?_)
  · refine r_iconst hk (dk_at D_Mach_card 10 rfl) ?_
    exact mg false (decide_eq_false (by omega)).symm
  · refine r_lload_n (i := 1) hk (dk_at D_Mach_card 4 rfl) rfl rfl ?_
    refine r_ldc2 hk kl_Mach_253 (dk_at D_Mach_card 5 rfl) ?_
    refine r_lc_gt (t := 18) hk (dk_at D_Mach_card 6 rfl) (dk_at D_Mach_card 7 rfl) (by decide) (by omega) (by omega) (fun c_11 => ?_) (fun c_11 => ?_)
    · refine r_iconst hk (dk_at D_Mach_card 10 rfl) ?_
      exact mg false (decide_eq_false (by omega)).symm
    · refine r_iconst hk (dk_at D_Mach_card 8 rfl) ?_
      refine r_goto (t := 19) hk (dk_at D_Mach_card 9 rfl) (by decide) ?_
      exact mg true (decide_eq_true (by omega)).symm
/-- all that is not the assembler's stays -/
def aFam (n : Nat) : Bool := (Nat.ble 16 n && Nat.ble n 20) || Nat.beq n 27
def eA (w w' : Wt) : Prop := ∀ i : Ix, aFam i.1 = false → w' i = w i
theorem eA.rf (w : Wt) : eA w w := fun _ _ => rfl
theorem eA.tr {a b c : Wt} (h1 : eA a b) (h2 : eA b c) : eA a c := fun i hi => (h2 i hi).trans (h1 i hi)
theorem eA.up {w : Wt} {i : Ix} {x : Option Ce} (hi : aFam i.1 = true) : eA w (up w i x) := fun j hj => up_n (fun e => by subst e; rw [hi] at hj; cases hj)
theorem aFam_f {n lo hi : Nat} (h : (Nat.ble lo n && Nat.ble n hi) = true) (hl : hi < 16 ∨ (20 < lo ∧ hi < 27)) : aFam n = false := by
  simp only [Bool.and_eq_true] at h
  have h1 := Nat.le_of_ble_eq_true h.1
  have h2 := Nat.le_of_ble_eq_true h.2
  unfold aFam
  rw [nbf (by omega), Bool.or_false]
  cases hb : (Nat.ble 16 n && Nat.ble n 20) with
  | false => rfl
  | true =>
    simp only [Bool.and_eq_true] at hb
    have h3 := Nat.le_of_ble_eq_true hb.1
    have h4 := Nat.le_of_ble_eq_true hb.2
    omega
theorem eA.on {w w' : Wt} {lo hi : Nat} (h : eA w w') (hl : hi < 16 ∨ (20 < lo ∧ hi < 27)) : eqOn lo hi w w' := fun i hi => h i (aFam_f hi hl)
theorem WW.asm {w0 w w' : Wt} {ad : Ix → Nat} {c : Nat → Nat → Nat} {g : Nat → Bool} {t : Nat} {A : Nat} {mn : Bool} {ov : Bool} {dv : Nat} {dm : Bool} {nx : Nat} {fl : Int} {q : Nat → Nat × Bool} {qn : Nat} {o : Nat → Nat × Bool} {on : Nat} {ln : Nat → Int × Int × Int × Int} {m : Nat} {r : Nat → Bool} {p : Nat → Int} {fc : Nat} {ln' : Nat → Ln} {m' : Nat} {r' : Nat → Bool} {p' : Nat → Int} (h : WW w0 ad w (c, g, t, A, mn, ov, dv, dm, nx, fl, q, qn, o, on, ln, m, r, p, fc)) (e : eA w w') (hs : wS ad w' ln' m' r' p') : WW w0 ad w' (c, g, t, A, mn, ov, dv, dm, nx, fl, q, qn, o, on, ln', m', r', p', fc) := by
  obtain ⟨h0, h1, h2, h3, h4, h5, h7, h8⟩ := h
  refine ⟨fun i hi => (e i ?_).trans (h0 i hi), h1.fr (e.on (by omega)), h2.fr (e.on (by omega)), h3.fr (e.on (by omega)), h4.fr (e.on (by omega)), hs, (e _ rfl).trans h7, h8.fr (e.on (by omega))⟩
  unfold aFam
  rw [nbf (by omega), Bool.or_false]
  cases hb : (Nat.ble 16 i.1 && Nat.ble i.1 20) with
  | false => rfl
  | true =>
    simp only [Bool.and_eq_true] at hb
    have h4 := Nat.le_of_ble_eq_true hb.2
    omega
def noP : Nat → Int := fun _ => -1
theorem c_Asm_forget (G : Gt) {ad : Ix → Nat} {w : Wt} {m : Nat} {op fu : Bool} {f0 : Nat → Value} (h16 : w (16, 0) = some (aO ad m op fu)) (h20 : w (20, 0) = some (.inr (0, 20, f0))) : Mt G y_Asm_forget w_Asm_forget 0 0 0 [.ref (ad (16, 0))] ad w (ex none ad (up w (20, 0) (some (.inr (0, 20, iA noP))))) noT := by
  refine Mt.to [some (.ref (ad (16, 0))), none] (fun K hk hR hin => ?_)
  have loop : ∀ n : Nat, n ≤ 20 → ∀ (k : Int) (f : Nat → Value), k = (n : Int) → (∀ j, j < n → f j = iA noP j) → V G K 2 (QE G K (ex none ad (up w (20, 0) (some (.inr (0, 20, iA noP))))) noT 0 0) 0 0 2 [some (.ref (ad (16, 0))), some (.int (i32 k))] [] ad (up w (20, 0) (some (.inr (0, 20, f)))) := by
    refine nup 20 (fun n hn ih k f hkk hf => ?_)
    refine r_iload_n (i := 1) hk (dk_at D_Asm_forget 2 rfl) rfl rfl ?_
    refine r_bipush hk (dk_at D_Asm_forget 3 rfl) (by decide) ?_
    refine r_icmp_ge (t := 21) hk (dk_at D_Asm_forget 4 rfl) (by decide) (by omega) (by omega) (fun c_5 => ?_) (fun c_5 => ?_)
    · obtain rfl : n = 20 := by omega
      refine r_arr hf ?_
      exact r_vret hk (dk_at D_Asm_forget 12 rfl) ex.rf
    · refine r_aload_n (i := 0) hk (dk_at D_Asm_forget 5 rfl) rfl rfl ?_
      refine r_get hk fl_Asm_24 (dk_at D_Asm_forget 6 rfl) ?_ (hw := (up_n (by intro e; cases e)).trans h16)
      refine r_iload_n (i := 1) hk (dk_at D_Asm_forget 7 rfl) rfl rfl ?_
      refine r_iconst hk (dk_at D_Asm_forget 8 rfl) ?_
      refine r_iastoreU (ix := n) hk (dk_at D_Asm_forget 9 rfl) ?_
      refine r_iinc (i := 1) (ls' := [_, _]) hk (dk_at D_Asm_forget 10 rfl) rfl rfl rfl rfl ?_
      refine r_goto (t := 2) hk (dk_at D_Asm_forget 11 rfl) (by decide) ?_
      exact ih (by omega) _ _ (by omega) (ext_s hf rfl)
  refine r_iconst hk (dk_at D_Asm_forget 0 rfl) ?_
  refine r_istore_n (i := 1) (ls' := [_, _]) hk (dk_at D_Asm_forget 1 rfl) rfl rfl rfl rfl ?_
  refine r_in h20 ?_
  exact loop 0 (Nat.zero_le _) _ _ rfl ext_0
theorem c_Mach_reserve (G : Gt) {w0 w : Wt} {ad : Ix → Nat} {c : Nat → Nat → Nat} {g : Nat → Bool} {t : Nat} {A : Nat} {mn : Bool} {ov : Bool} {dv : Nat} {dm : Bool} {nx : Nat} {fl : Int} {q : Nat → Nat × Bool} {qn : Nat} {o : Nat → Nat × Bool} {on : Nat} {ln : Nat → Int × Int × Int × Int} {m : Nat} {r : Nat → Bool} {p : Nat → Int} {fc : Nat} {z : Int} (hz : -2147483648 ≤ z ∧ z < 2147483648) (h : WW w0 ad w (c, g, t, A, mn, ov, dv, dm, nx, fl, q, qn, o, on, ln, m, r, p, fc)) : Mt G y_Mach_reserve w_Mach_reserve 7 1 6 [.ref (ad (0, 0)), .int (i32 z)] ad w (fun rv ad' w' => rv = none ∧ ad' = ad ∧ WW w0 ad w' (c, g, t, A, mn, ov, dv, dm, nx, fl, q, qn, o, on, ln, m, fu_ r z.toNat true, p, fc) ∧ (0 ≤ z ∧ z < 200)) (fun C ad' w' => ad' = ad ∧ WW w0 ad w' (c, g, t, A, mn, ov, dv, dm, nx, fl, q, qn, o, on, ln, m, r, p, fc) ∧ C = "java/lang/IndexOutOfBoundsException" ∧ ¬ (0 ≤ z ∧ z < 200)) := by
  refine Mt.to [some (.ref (ad (0, 0))), some (.int (i32 z))] (fun K hk hR hin => ?_)
  have h0 := h.m0
  obtain ⟨op, fu, gv, at_, td, tn, s1, s2, s3, s4, s5, s6⟩ := h.as
  refine r_iload_n (i := 1) hk (dk_at D_Mach_reserve 0 rfl) rfl rfl ?_
  refine r_callS hk hR m_Mach_isAddress s_Mach_isAddress ml_Mach_184 (dk_at D_Mach_reserve 1 rfl) (c_Mach_isAddress G (z := z) hz) ?_
  refine r_must hk hR ml_Mach_250 (dk_at D_Mach_reserve 2 rfl) (fun c_4 => ⟨rfl, h, rfl, isA_f.mp c_4⟩) (fun c_4 => ?_)
  have hza := isA_t.mp c_4
  obtain ⟨a, rfl⟩ : ∃ n : Nat, z = (n : Int) := ⟨z.toNat, by omega⟩
  refine r_aload_n (i := 0) hk (dk_at D_Mach_reserve 3 rfl) rfl rfl ?_
  refine r_get hk fl_Mach_89 (dk_at D_Mach_reserve 4 rfl) ?_ (hw := h0)
  refine r_getN hk fl_Mach_278 (dk_at D_Mach_reserve 5 rfl) ?_ (hw := s1)
  refine r_iload_n (i := 1) hk (dk_at D_Mach_reserve 6 rfl) rfl rfl ?_
  refine r_iconst hk (dk_at D_Mach_reserve 7 rfl) ?_
  refine r_zastore (ix := a) hk (dk_at D_Mach_reserve 8 rfl) ?_ (b := true) (hw := s3)
  rw [show updV (bA r) a (.int (i32 (b2i true))) = bA (fu_ r a true) from updV_bA]
  exact r_vret hk (dk_at D_Mach_reserve 9 rfl) ⟨rfl, rfl, h.asm (eA.up rfl) ⟨op, fu, gv, at_, td, tn, (up_n (by intro e; cases e)).trans s1, (by obtain ⟨f, a1, a2⟩ := s2; exact ⟨f, (up_n (by intro e; cases e)).trans a1, a2⟩), up_s, (up_n (by intro e; cases e)).trans s4, (up_n (by intro e; cases e)).trans s5, fun k hk => (up_n (by intro e; cases e)).trans (s6 k hk)⟩, hza⟩
theorem c_Mach_clear (G : Gt) {w0 w : Wt} {ad : Ix → Nat} {c : Nat → Nat → Nat} {g : Nat → Bool} {t : Nat} {A : Nat} {mn : Bool} {ov : Bool} {dv : Nat} {dm : Bool} {nx : Nat} {fl : Int} {q : Nat → Nat × Bool} {qn : Nat} {o : Nat → Nat × Bool} {on : Nat} {ln : Nat → Int × Int × Int × Int} {m : Nat} {r : Nat → Bool} {p : Nat → Int} {fc : Nat} (h : WW w0 ad w (c, g, t, A, mn, ov, dv, dm, nx, fl, q, qn, o, on, ln, m, r, p, fc)) : Mt G y_Mach_clear w_Mach_clear 1 0 0 [.ref (ad (0, 0))] ad w (fun rv ad' w' => rv = none ∧ ad' = ad ∧ WW w0 ad w' (c, g, t, A, mn, ov, dv, dm, nx, fl, q, qn, o, on, ln, 0, fun _ => false, noP, fc)) noT := by
  refine Mt.to [some (.ref (ad (0, 0))), none] (fun K hk hR hin => ?_)
  have h0 := h.m0
  obtain ⟨op, fu, gv, at_, td, tn, s1, s2, s3, s4, s5, s6⟩ := h.as
  have loop : ∀ n : Nat, n ≤ 200 → ∀ (k : Int) (f : Nat → Value), k = (n : Int) → (∀ j, j < n → f j = bA (fun _ => false) j) → V G K 2 (QE G K (fun rv ad' w' => rv = none ∧ ad' = ad ∧ WW w0 ad w' (c, g, t, A, mn, ov, dv, dm, nx, fl, q, qn, o, on, ln, 0, fun _ => false, noP, fc)) noT 0 0) 0 0 10 [some (.ref (ad (0, 0))), some (.int (i32 k))] [] ad (up (up w (16, 0) (some (aO ad 0 op fu))) (18, 0) (some (.inr (2, 200, f)))) := by
    refine nup 200 (fun n hn ih k f hkk hf => ?_)
    refine r_iload_n (i := 1) hk (dk_at D_Mach_clear 6 rfl) rfl rfl ?_
    refine r_sipush hk (dk_at D_Mach_clear 7 rfl) (by decide) ?_
    refine r_icmp_ge (t := 33) hk (dk_at D_Mach_clear 8 rfl) (by decide) (by omega) (by omega) (fun c_14 => ?_) (fun c_14 => ?_)
    · obtain rfl : n = 200 := by omega
      refine r_arr hf ?_
      refine r_aload_n (i := 0) hk (dk_at D_Mach_clear 17 rfl) rfl rfl ?_
      refine r_get hk fl_Mach_89 (dk_at D_Mach_clear 18 rfl) ?_ (hw := (up_n (by intro e; cases e)).trans ((up_n (by intro e; cases e)).trans h0))
      refine r_callVv hk hR m_Asm_forget s_Asm_forget ml_Mach_282 (dk_at D_Mach_clear 19 rfl) (c_Asm_forget G (m := 0) (op := op) (fu := fu) (f0 := iA p) ((up_n (by intro e; cases e)).trans up_s) ((up_n (by intro e; cases e)).trans ((up_n (by intro e; cases e)).trans s5))) ?_ (i := (16, 0)) (hw := (up_n (by intro e; cases e)).trans up_s)
      exact r_vret hk (dk_at D_Mach_clear 20 rfl) ⟨rfl, rfl, h.asm (((eA.up rfl).tr (eA.up rfl)).tr (eA.up rfl)) ⟨op, fu, gv, at_, td, tn, (up_n (by intro e; cases e)).trans ((up_n (by intro e; cases e)).trans up_s), (by obtain ⟨f, a1, a2⟩ := s2; exact ⟨f, (up_n (by intro e; cases e)).trans ((up_n (by intro e; cases e)).trans ((up_n (by intro e; cases e)).trans a1)), fun k hk => by omega⟩), (up_n (by intro e; cases e)).trans up_s, (up_n (by intro e; cases e)).trans ((up_n (by intro e; cases e)).trans ((up_n (by intro e; cases e)).trans s4)), up_s, fun k hk => by omega⟩⟩
    · refine r_aload_n (i := 0) hk (dk_at D_Mach_clear 9 rfl) rfl rfl ?_
      refine r_get hk fl_Mach_89 (dk_at D_Mach_clear 10 rfl) ?_ (hw := (up_n (by intro e; cases e)).trans ((up_n (by intro e; cases e)).trans h0))
      refine r_getN hk fl_Mach_278 (dk_at D_Mach_clear 11 rfl) ?_ (hw := (up_n (by intro e; cases e)).trans up_s)
      refine r_iload_n (i := 1) hk (dk_at D_Mach_clear 12 rfl) rfl rfl ?_
      refine r_iconst hk (dk_at D_Mach_clear 13 rfl) ?_
      refine r_zastoreU (ix := n) hk (dk_at D_Mach_clear 14 rfl) ?_ (b := false)
      refine r_iinc (i := 1) (ls' := [_, _]) hk (dk_at D_Mach_clear 15 rfl) rfl rfl rfl rfl ?_
      refine r_goto (t := 10) hk (dk_at D_Mach_clear 16 rfl) (by decide) ?_
      exact ih (by omega) _ _ (by omega) (ext_s hf rfl)
  refine r_aload_n (i := 0) hk (dk_at D_Mach_clear 0 rfl) rfl rfl ?_
  refine r_get hk fl_Mach_89 (dk_at D_Mach_clear 1 rfl) ?_ (hw := h0)
  refine r_iconst hk (dk_at D_Mach_clear 2 rfl) ?_
  refine r_putN (fs' := [_, _, _, _, _, _, _]) hk fl_Mach_266 ft_Asm_1 (dk_at D_Mach_clear 3 rfl) ?_ (hw := s1)
  refine r_iconst hk (dk_at D_Mach_clear 4 rfl) ?_
  refine r_istore_n (i := 1) (ls' := [_, _]) hk (dk_at D_Mach_clear 5 rfl) rfl rfl rfl rfl ?_
  refine r_in (i := (18, 0)) ((up_n (by intro e; cases e)).trans s3) ?_
  exact loop 0 (Nat.zero_le _) _ _ rfl ext_0
theorem c_Mach_place (G : Gt) {w0 w : Wt} {ad : Ix → Nat} {c : Nat → Nat → Nat} {g : Nat → Bool} {t : Nat} {A : Nat} {mn : Bool} {ov : Bool} {dv : Nat} {dm : Bool} {nx : Nat} {fl : Int} {q : Nat → Nat × Bool} {qn : Nat} {o : Nat → Nat × Bool} {on : Nat} {ln : Nat → Int × Int × Int × Int} {m : Nat} {r : Nat → Bool} {p : Nat → Int} {fc : Nat} {z : Int} (hz : -2147483648 ≤ z ∧ z < 2147483648) (h : WW w0 ad w (c, g, t, A, mn, ov, dv, dm, nx, fl, q, qn, o, on, ln, m, r, p, fc)) : Mt G y_Mach_place w_Mach_place 7 1 6 [.ref (ad (0, 0)), .int (i32 z)] ad w (fun rv ad' w' => rv = some (.int (i32 (p z.toNat))) ∧ ad' = ad ∧ WW w0 ad w' (c, g, t, A, mn, ov, dv, dm, nx, fl, q, qn, o, on, ln, m, r, p, fc) ∧ (0 ≤ z ∧ z < 20)) (fun C ad' w' => ad' = ad ∧ WW w0 ad w' (c, g, t, A, mn, ov, dv, dm, nx, fl, q, qn, o, on, ln, m, r, p, fc) ∧ C = "java/lang/IndexOutOfBoundsException" ∧ ¬ (0 ≤ z ∧ z < 20)) := by
  refine Mt.to [some (.ref (ad (0, 0))), some (.int (i32 z))] (fun K hk hR hin => ?_)
  have h0 := h.m0
  obtain ⟨op, fu, gv, at_, td, tn, s1, s2, s3, s4, s5, s6⟩ := h.as
  have mg : ∀ b : Bool, b = decide (0 ≤ z ∧ z < 20) → V G K 2 (QE G K (fun rv ad' w' => rv = some (.int (i32 (p z.toNat))) ∧ ad' = ad ∧ WW w0 ad w' (c, g, t, A, mn, ov, dv, dm, nx, fl, q, qn, o, on, ln, m, r, p, fc) ∧ (0 ≤ z ∧ z < 20)) (fun C ad' w' => ad' = ad ∧ WW w0 ad w' (c, g, t, A, mn, ov, dv, dm, nx, fl, q, qn, o, on, ln, m, r, p, fc) ∧ C = "java/lang/IndexOutOfBoundsException" ∧ ¬ (0 ≤ z ∧ z < 20)) 1 6) 0 0 15 [some (.ref (ad (0, 0))), some (.int (i32 z))] [.int (i32 (b2i b))] ad w := by
    intro b hb
    refine r_must hk hR ml_Mach_250 (dk_at D_Mach_place 8 rfl) (fun c_15 => ⟨rfl, h, rfl, of_decide_eq_false (by rw [← hb]; exact c_15)⟩) (fun c_15 => ?_)
    have hc : 0 ≤ z ∧ z < 20 := of_decide_eq_true (by rw [← hb]; exact c_15)
    obtain ⟨a, rfl⟩ : ∃ n : Nat, z = (n : Int) := ⟨z.toNat, by omega⟩
    refine r_aload_n (i := 0) hk (dk_at D_Mach_place 9 rfl) rfl rfl ?_
    refine r_get hk fl_Mach_89 (dk_at D_Mach_place 10 rfl) ?_ (hw := h0)
    refine r_getN hk fl_Mach_308 (dk_at D_Mach_place 11 rfl) ?_ (hw := s1)
    refine r_iload_n (i := 1) hk (dk_at D_Mach_place 12 rfl) rfl rfl ?_
    refine r_iaload (ix := a) hk (dk_at D_Mach_place 13 rfl) ?_ (hw := s5)
    exact r_iret hk (dk_at D_Mach_place 14 rfl) ⟨rfl, rfl, h, hc⟩
  refine r_iload_n (i := 1) hk (dk_at D_Mach_place 0 rfl) rfl rfl ?_
  refine r_if_lt (t := 14) hk (dk_at D_Mach_place 1 rfl) (by decide) (by omega) (fun c_1 => ?_) (fun c_1 => ?_)
  · refine r_iconst hk (dk_at D_Mach_place 7 rfl) ?_
    exact mg false (decide_eq_false (by omega)).symm
  · refine r_iload_n (i := 1) hk (dk_at D_Mach_place 2 rfl) rfl rfl ?_
    refine r_bipush hk (dk_at D_Mach_place 3 rfl) (by decide) ?_
    refine r_icmp_ge (t := 14) hk (dk_at D_Mach_place 4 rfl) (by decide) (by omega) (by omega) (fun c_7 => ?_) (fun c_7 => ?_)
    · refine r_iconst hk (dk_at D_Mach_place 7 rfl) ?_
      exact mg false (decide_eq_false (by omega)).symm
    · refine r_iconst hk (dk_at D_Mach_place 5 rfl) ?_
      refine r_goto (t := 15) hk (dk_at D_Mach_place 6 rfl) (by decide) ?_
      exact mg true (decide_eq_true (by omega)).symm
def rgV (z : Int) (A dv : Nat) : Nat := if z = 2 then dv else if z = 0 then A / 10 ^ 10 else A % 10 ^ 10
theorem c_Mach_register (G : Gt) {w0 w : Wt} {ad : Ix → Nat} {c : Nat → Nat → Nat} {g : Nat → Bool} {t : Nat} {A : Nat} {mn : Bool} {ov : Bool} {dv : Nat} {dm : Bool} {nx : Nat} {fl : Int} {q : Nat → Nat × Bool} {qn : Nat} {o : Nat → Nat × Bool} {on : Nat} {ln : Nat → Int × Int × Int × Int} {m : Nat} {r : Nat → Bool} {p : Nat → Int} {fc : Nat} {z : Int} (hz : -2147483648 ≤ z ∧ z < 2147483648) (h : WW w0 ad w (c, g, t, A, mn, ov, dv, dm, nx, fl, q, qn, o, on, ln, m, r, p, fc)) (hdv : dv < 10 ^ 10) (hA : A < 10 ^ 20) : Mt G y_Mach_register w_Mach_register 7 1 6 [.ref (ad (0, 0)), .int (i32 z)] ad w (fun rv ad' w' => rv = some (.long (i64 (rgV z A dv))) ∧ ad' = ad ∧ WW w0 ad w' (c, g, t, A, mn, ov, dv, dm, nx, fl, q, qn, o, on, ln, m, r, p, fc) ∧ (0 ≤ z ∧ z < 3)) (fun C ad' w' => ad' = ad ∧ WW w0 ad w' (c, g, t, A, mn, ov, dv, dm, nx, fl, q, qn, o, on, ln, m, r, p, fc) ∧ C = "java/lang/IndexOutOfBoundsException" ∧ ¬ (0 ≤ z ∧ z < 3)) := by
  refine Mt.to [some (.ref (ad (0, 0))), some (.int (i32 z))] (fun K hk hR hin => ?_)
  have h0 := h.m0
  have ht := h.t10
  have m43 : (0 ≤ z ∧ z < 3) → z ≠ 2 → ∀ u : Bool, u = decide (z = 0) → V G K 2 (QE G K (fun rv ad' w' => rv = some (.long (i64 (rgV z A dv))) ∧ ad' = ad ∧ WW w0 ad w' (c, g, t, A, mn, ov, dv, dm, nx, fl, q, qn, o, on, ln, m, r, p, fc) ∧ (0 ≤ z ∧ z < 3)) (fun C ad' w' => ad' = ad ∧ WW w0 ad w' (c, g, t, A, mn, ov, dv, dm, nx, fl, q, qn, o, on, ln, m, r, p, fc) ∧ C = "java/lang/IndexOutOfBoundsException" ∧ ¬ (0 ≤ z ∧ z < 3)) 1 6) 1 6 43 [some (.ref (ad (0, 0))), some (.int (i32 z))] [.int (i32 (b2i u)), .ref (ad (4, 0))] ad w := by
    intro hc n2 u hu
    obtain ⟨x14, f14, e14, e15⟩ := h.s14
    have ev : rgV z A dv = cond u (A / 10 ^ 10) (A % 10 ^ 10) := by
      unfold rgV
      rw [if_neg n2, hu]
      by_cases e : z = 0
      · rw [if_pos e, decide_eq_true e]; rfl
      · rw [if_neg e, decide_eq_false e]; rfl
    have hlt : cond u (A / 10 ^ 10) (A % 10 ^ 10) < 10000000000 := by
      cases u
      · exact Nat.mod_lt _ (by decide)
      · show A / 10 ^ 10 < _; omega
    refine r_aload_n (i := 0) hk (dk_at D_Mach_register 23 rfl) rfl rfl ?_
    refine r_get hk fl_Mach_83 (dk_at D_Mach_register 24 rfl) ?_ (hw := h0)
    refine r_callVv hk hR m_Acc_half s_Acc_half ml_Mach_159 (dk_at D_Mach_register 25 rfl) (c_Acc_half G (u := u) h.a4 h.a5 e14 e15) ?_ (i := (4, 0)) (hw := h.a4)
    refine r_gp (fun w => WW w0 ad w (c, g, t, A, mn, ov, dv, dm, nx, fl, q, qn, o, on, ln, m, r, p, fc) ∧ tW ad w (14, 0) (15, 0) (cond u (A / 10 ^ 10) (A % 10 ^ 10)) mn) ⟨h.read, up_s, (up_n (by intro e; cases e)).trans up_s⟩ (fun w h => ?_)
    obtain ⟨h, h14⟩ := h
    have h0 := h.m0
    refine r_aload_n (i := 0) hk (dk_at D_Mach_register 26 rfl) rfl rfl ?_
    refine r_get hk fl_Mach_83 (dk_at D_Mach_register 27 rfl) ?_ (hw := h0)
    refine r_callV hk hR m_Word_value s_Word_value ml_Mach_315 (dk_at D_Mach_register 28 rfl) (c_Word_value G h14.1 h14.2 hlt) ?_ (i := (14, 0)) (hw := h14.1)
    exact r_lret hk (dk_at D_Mach_register 29 rfl) ⟨by rw [ev], rfl, h, hc⟩
  have mg : ∀ b : Bool, b = decide (0 ≤ z ∧ z < 3) → V G K 2 (QE G K (fun rv ad' w' => rv = some (.long (i64 (rgV z A dv))) ∧ ad' = ad ∧ WW w0 ad w' (c, g, t, A, mn, ov, dv, dm, nx, fl, q, qn, o, on, ln, m, r, p, fc) ∧ (0 ≤ z ∧ z < 3)) (fun C ad' w' => ad' = ad ∧ WW w0 ad w' (c, g, t, A, mn, ov, dv, dm, nx, fl, q, qn, o, on, ln, m, r, p, fc) ∧ C = "java/lang/IndexOutOfBoundsException" ∧ ¬ (0 ≤ z ∧ z < 3)) 1 6) 0 0 14 [some (.ref (ad (0, 0))), some (.int (i32 z))] [.int (i32 (b2i b))] ad w := by
    intro b hb
    refine r_must hk hR ml_Mach_250 (dk_at D_Mach_register 8 rfl) (fun c_14 => ⟨rfl, h, rfl, of_decide_eq_false (by rw [← hb]; exact c_14)⟩) (fun c_14 => ?_)
    have hc : 0 ≤ z ∧ z < 3 := of_decide_eq_true (by rw [← hb]; exact c_14)
    refine r_iload_n (i := 1) hk (dk_at D_Mach_register 9 rfl) rfl rfl ?_
    refine r_iconst hk (dk_at D_Mach_register 10 rfl) ?_
    refine r_icmp_ne (t := 30) hk (dk_at D_Mach_register 11 rfl) (by decide) (by omega) (by omega) (fun c_19 => ?_) (fun c_19 => ?_)
    · refine r_aload_n (i := 0) hk (dk_at D_Mach_register 16 rfl) rfl rfl ?_
      refine r_get hk fl_Mach_69 (dk_at D_Mach_register 17 rfl) ?_ (hw := h0)
      refine r_iload_n (i := 1) hk (dk_at D_Mach_register 18 rfl) rfl rfl ?_
      refine r_if_ne (t := 42) hk (dk_at D_Mach_register 19 rfl) (by decide) (by omega) (fun c_35 => ?_) (fun c_35 => ?_)
      · refine r_iconst hk (dk_at D_Mach_register 22 rfl) ?_
        exact m43 hc (by omega) false (decide_eq_false (by omega)).symm
      · refine r_iconst hk (dk_at D_Mach_register 20 rfl) ?_
        refine r_goto (t := 43) hk (dk_at D_Mach_register 21 rfl) (by decide) ?_
        exact m43 hc (by omega) true (decide_eq_true (by omega)).symm
    · refine r_aload_n (i := 0) hk (dk_at D_Mach_register 12 rfl) rfl rfl ?_
      refine r_get hk fl_Mach_76 (dk_at D_Mach_register 13 rfl) ?_ (hw := h0)
      refine r_callV hk hR m_Word_value s_Word_value ml_Mach_315 (dk_at D_Mach_register 14 rfl) (c_Word_value G ht.1 ht.2 hdv) ?_ (i := (10, 0)) (hw := ht.1)
      exact r_lret hk (dk_at D_Mach_register 15 rfl) ⟨by rw [show rgV z A dv = dv from if_pos (by omega)], rfl, h, hc⟩
  refine r_iload_n (i := 1) hk (dk_at D_Mach_register 0 rfl) rfl rfl ?_
  refine r_if_lt (t := 13) hk (dk_at D_Mach_register 1 rfl) (by decide) (by omega) (fun c_1 => ?_) (fun c_1 => ?_)
  · refine r_iconst hk (dk_at D_Mach_register 7 rfl) ?_
    exact mg false (decide_eq_false (by omega)).symm
  · refine r_iload_n (i := 1) hk (dk_at D_Mach_register 2 rfl) rfl rfl ?_
    refine r_iconst hk (dk_at D_Mach_register 3 rfl) ?_
    refine r_icmp_ge (t := 13) hk (dk_at D_Mach_register 4 rfl) (by decide) (by omega) (by omega) (fun c_6 => ?_) (fun c_6 => ?_)
    · refine r_iconst hk (dk_at D_Mach_register 7 rfl) ?_
      exact mg false (decide_eq_false (by omega)).symm
    · refine r_iconst hk (dk_at D_Mach_register 5 rfl) ?_
      refine r_goto (t := 14) hk (dk_at D_Mach_register 6 rfl) (by decide) ?_
      exact mg true (decide_eq_true (by omega)).symm
def sgV (z : Int) (mn dm ov : Bool) : Bool := if z = 0 then mn else if z = 1 then dm else ov
theorem c_Mach_sign (G : Gt) {w0 w : Wt} {ad : Ix → Nat} {c : Nat → Nat → Nat} {g : Nat → Bool} {t : Nat} {A : Nat} {mn : Bool} {ov : Bool} {dv : Nat} {dm : Bool} {nx : Nat} {fl : Int} {q : Nat → Nat × Bool} {qn : Nat} {o : Nat → Nat × Bool} {on : Nat} {ln : Nat → Int × Int × Int × Int} {m : Nat} {r : Nat → Bool} {p : Nat → Int} {fc : Nat} {z : Int} (hz : -2147483648 ≤ z ∧ z < 2147483648) (h : WW w0 ad w (c, g, t, A, mn, ov, dv, dm, nx, fl, q, qn, o, on, ln, m, r, p, fc)) : Mt G y_Mach_sign w_Mach_sign 7 1 6 [.ref (ad (0, 0)), .int (i32 z)] ad w (fun rv ad' w' => rv = some (.int (i32 (b2i (sgV z mn dm ov)))) ∧ ad' = ad ∧ WW w0 ad w' (c, g, t, A, mn, ov, dv, dm, nx, fl, q, qn, o, on, ln, m, r, p, fc) ∧ (0 ≤ z ∧ z < 3)) (fun C ad' w' => ad' = ad ∧ WW w0 ad w' (c, g, t, A, mn, ov, dv, dm, nx, fl, q, qn, o, on, ln, m, r, p, fc) ∧ C = "java/lang/IndexOutOfBoundsException" ∧ ¬ (0 ≤ z ∧ z < 3)) := by
  refine Mt.to [some (.ref (ad (0, 0))), some (.int (i32 z))] (fun K hk hR hin => ?_)
  have h0 := h.m0
  have h4 := h.a4
  have ht := h.t10.1
  have mg : ∀ b : Bool, b = decide (0 ≤ z ∧ z < 3) → V G K 2 (QE G K (fun rv ad' w' => rv = some (.int (i32 (b2i (sgV z mn dm ov)))) ∧ ad' = ad ∧ WW w0 ad w' (c, g, t, A, mn, ov, dv, dm, nx, fl, q, qn, o, on, ln, m, r, p, fc) ∧ (0 ≤ z ∧ z < 3)) (fun C ad' w' => ad' = ad ∧ WW w0 ad w' (c, g, t, A, mn, ov, dv, dm, nx, fl, q, qn, o, on, ln, m, r, p, fc) ∧ C = "java/lang/IndexOutOfBoundsException" ∧ ¬ (0 ≤ z ∧ z < 3)) 1 6) 0 0 14 [some (.ref (ad (0, 0))), some (.int (i32 z))] [.int (i32 (b2i b))] ad w := by
    intro b hb
    refine r_must hk hR ml_Mach_250 (dk_at D_Mach_sign 8 rfl) (fun c_14 => ⟨rfl, h, rfl, of_decide_eq_false (by rw [← hb]; exact c_14)⟩) (fun c_14 => ?_)
    have hc : 0 ≤ z ∧ z < 3 := of_decide_eq_true (by rw [← hb]; exact c_14)
    refine r_iload_n (i := 1) hk (dk_at D_Mach_sign 9 rfl) rfl rfl ?_
    refine r_if_ne (t := 31) hk (dk_at D_Mach_sign 10 rfl) (by decide) (by omega) (fun c_18 => ?_) (fun c_18 => ?_)
    · refine r_iload_n (i := 1) hk (dk_at D_Mach_sign 15 rfl) rfl rfl ?_
      refine r_iconst hk (dk_at D_Mach_sign 16 rfl) ?_
      refine r_icmp_ne (t := 46) hk (dk_at D_Mach_sign 17 rfl) (by decide) (by omega) (by omega) (fun c_33 => ?_) (fun c_33 => ?_)
      · have e : sgV z mn dm ov = ov := (if_neg (by omega)).trans (if_neg (by omega))
        rw [e]
        refine r_aload_n (i := 0) hk (dk_at D_Mach_sign 22 rfl) rfl rfl ?_
        refine r_get hk fl_Mach_69 (dk_at D_Mach_sign 23 rfl) ?_ (hw := h0)
        refine r_getN hk fl_Mach_129 (dk_at D_Mach_sign 24 rfl) ?_
        exact r_bret hk (dk_at D_Mach_sign 25 rfl) ⟨rfl, rfl, h, hc⟩
      · have e : sgV z mn dm ov = dm := (if_neg (by omega)).trans (if_pos (by omega))
        rw [e]
        refine r_aload_n (i := 0) hk (dk_at D_Mach_sign 18 rfl) rfl rfl ?_
        refine r_get hk fl_Mach_76 (dk_at D_Mach_sign 19 rfl) ?_ (hw := h0)
        refine r_getN hk fl_Mach_113 (dk_at D_Mach_sign 20 rfl) ?_
        refine r_goto (t := 53) hk (dk_at D_Mach_sign 21 rfl) (by decide) ?_
        exact r_bret hk (dk_at D_Mach_sign 25 rfl) ⟨rfl, rfl, h, hc⟩
    · have e : sgV z mn dm ov = mn := if_pos (by omega)
      rw [e]
      refine r_aload_n (i := 0) hk (dk_at D_Mach_sign 11 rfl) rfl rfl ?_
      refine r_get hk fl_Mach_69 (dk_at D_Mach_sign 12 rfl) ?_ (hw := h0)
      refine r_getN hk fl_Mach_219 (dk_at D_Mach_sign 13 rfl) ?_
      refine r_goto (t := 53) hk (dk_at D_Mach_sign 14 rfl) (by decide) ?_
      exact r_bret hk (dk_at D_Mach_sign 25 rfl) ⟨rfl, rfl, h, hc⟩
  refine r_iload_n (i := 1) hk (dk_at D_Mach_sign 0 rfl) rfl rfl ?_
  refine r_if_lt (t := 13) hk (dk_at D_Mach_sign 1 rfl) (by decide) (by omega) (fun c_1 => ?_) (fun c_1 => ?_)
  · refine r_iconst hk (dk_at D_Mach_sign 7 rfl) ?_
    exact mg false (decide_eq_false (by omega)).symm
  · refine r_iload_n (i := 1) hk (dk_at D_Mach_sign 2 rfl) rfl rfl ?_
    refine r_iconst hk (dk_at D_Mach_sign 3 rfl) ?_
    refine r_icmp_ge (t := 13) hk (dk_at D_Mach_sign 4 rfl) (by decide) (by omega) (by omega) (fun c_6 => ?_) (fun c_6 => ?_)
    · refine r_iconst hk (dk_at D_Mach_sign 7 rfl) ?_
      exact mg false (decide_eq_false (by omega)).symm
    · refine r_iconst hk (dk_at D_Mach_sign 5 rfl) ?_
      refine r_goto (t := 14) hk (dk_at D_Mach_sign 6 rfl) (by decide) ?_
      exact mg true (decide_eq_true (by omega)).symm
def gtV (f : Nat → Nat) (s : Bool) : Int := if vld f = true then cond s (-(val f : Int)) (val f) else -10000000000
theorem c_Mach_get (G : Gt) {w0 w : Wt} {ad : Ix → Nat} {c : Nat → Nat → Nat} {g : Nat → Bool} {t : Nat} {A : Nat} {mn : Bool} {ov : Bool} {dv : Nat} {dm : Bool} {nx : Nat} {fl : Int} {q : Nat → Nat × Bool} {qn : Nat} {o : Nat → Nat × Bool} {on : Nat} {ln : Nat → Int × Int × Int × Int} {m : Nat} {r : Nat → Bool} {p : Nat → Int} {fc : Nat} {z : Int} (hz : -2147483648 ≤ z ∧ z < 2147483648) (h : WW w0 ad w (c, g, t, A, mn, ov, dv, dm, nx, fl, q, qn, o, on, ln, m, r, p, fc)) (hc : ∀ a k, c a k < 128) : Mt G y_Mach_get w_Mach_get 7 1 6 [.ref (ad (0, 0)), .int (i32 z)] ad w (fun rv ad' w' => rv = some (.long (i64 (gtV (c z.toNat) (g z.toNat)))) ∧ ad' = ad ∧ WW w0 ad w' (c, g, t, A, mn, ov, dv, dm, nx, fl, q, qn, o, on, ln, m, r, p, fc) ∧ (0 ≤ z ∧ z < 200)) (fun C ad' w' => ad' = ad ∧ WW w0 ad w' (c, g, t, A, mn, ov, dv, dm, nx, fl, q, qn, o, on, ln, m, r, p, fc) ∧ C = "java/lang/IndexOutOfBoundsException" ∧ ¬ (0 ≤ z ∧ z < 200)) := by
  refine Mt.to [some (.ref (ad (0, 0))), some (.int (i32 z))] (fun K hk hR hin => ?_)
  have h0 := h.m0
  refine r_iload_n (i := 1) hk (dk_at D_Mach_get 0 rfl) rfl rfl ?_
  refine r_callS hk hR m_Mach_isAddress s_Mach_isAddress ml_Mach_184 (dk_at D_Mach_get 1 rfl) (c_Mach_isAddress G (z := z) hz) ?_
  refine r_must hk hR ml_Mach_250 (dk_at D_Mach_get 2 rfl) (fun c_4 => ⟨rfl, h, rfl, isA_f.mp c_4⟩) (fun c_4 => ?_)
  have hza := isA_t.mp c_4
  obtain ⟨a, rfl⟩ : ∃ n : Nat, z = (n : Int) := ⟨z.toNat, by omega⟩
  have ha : a < 200 := by omega
  refine r_aload_n (i := 0) hk (dk_at D_Mach_get 3 rfl) rfl rfl ?_
  refine r_get hk fl_Mach_62 (dk_at D_Mach_get 4 rfl) ?_ (hw := h0)
  refine r_iload_n (i := 1) hk (dk_at D_Mach_get 5 rfl) rfl rfl ?_
  refine r_callV hk hR m_Drum_isValid s_Drum_isValid ml_Mach_147 (dk_at D_Mach_get 6 rfl) (c_Drum_isValid G (a := a) h.d1 h.d2 (h.d3 ha) ha (fun k _ => hc a k)) ?_ (i := (1, 0)) (hw := h.d1)
  refine r_if_neB (t := 22) hk (dk_at D_Mach_get 7 rfl) (by decide) (fun c_15 => ?_) (fun c_15 => ?_)
  · have e : gtV (c a) (g a) = cond (g a) (-(val (c a) : Int)) (val (c a)) := if_pos c_15
    obtain ⟨x14, f14, e14, e15⟩ := h.s14
    refine r_aload_n (i := 0) hk (dk_at D_Mach_get 10 rfl) rfl rfl ?_
    refine r_get hk fl_Mach_62 (dk_at D_Mach_get 11 rfl) ?_ (hw := h0)
    refine r_iload_n (i := 1) hk (dk_at D_Mach_get 12 rfl) rfl rfl ?_
    refine r_aload_n (i := 0) hk (dk_at D_Mach_get 13 rfl) rfl rfl ?_
    refine r_get hk fl_Mach_83 (dk_at D_Mach_get 14 rfl) ?_ (hw := h0)
    refine r_callVv hk hR m_Drum_fetch s_Drum_fetch ml_Mach_151 (dk_at D_Mach_get 15 rfl) (c_Drum_fetch G (a := a) h.d1 h.d2 (h.d3 ha) ha (fun k _ => hc a k) c_15 e14 e15) ?_ (i := (1, 0)) (hw := h.d1)
    refine r_gp (fun w => WW w0 ad w (c, g, t, A, mn, ov, dv, dm, nx, fl, q, qn, o, on, ln, m, r, p, fc) ∧ tW ad w (14, 0) (15, 0) (val (c a)) (g a)) ⟨h.read, up_s, (up_n (by intro e; cases e)).trans up_s⟩ (fun w h => ?_)
    obtain ⟨h, h14⟩ := h
    have h0 := h.m0
    refine r_aload_n (i := 0) hk (dk_at D_Mach_get 16 rfl) rfl rfl ?_
    refine r_get hk fl_Mach_83 (dk_at D_Mach_get 17 rfl) ?_ (hw := h0)
    refine r_callV hk hR m_Word_signed s_Word_signed ml_Mach_321 (dk_at D_Mach_get 18 rfl) (c_Word_signed G h14.1 h14.2 (val_lt _)) ?_ (i := (14, 0)) (hw := h14.1)
    exact r_lret hk (dk_at D_Mach_get 19 rfl) ⟨by show _ = some (Value.long (i64 (gtV (c a) (g a)))); rw [e], rfl, h, hza⟩
  · have e : gtV (c a) (g a) = -10000000000 := if_neg (by rw [c_15]; decide)
    refine r_ldc2 hk kl_Mach_319 (dk_at D_Mach_get 8 rfl) ?_
    exact r_lret hk (dk_at D_Mach_get 9 rfl) ⟨by show _ = some (Value.long (i64 (gtV (c a) (g a)))); rw [e], rfl, h, hza⟩
theorem c_Mach_output (G : Gt) {w0 w : Wt} {ad : Ix → Nat} {c : Nat → Nat → Nat} {g : Nat → Bool} {t : Nat} {A : Nat} {mn : Bool} {ov : Bool} {dv : Nat} {dm : Bool} {nx : Nat} {fl : Int} {q : Nat → Nat × Bool} {qn : Nat} {o : Nat → Nat × Bool} {on : Nat} {ln : Nat → Int × Int × Int × Int} {m : Nat} {r : Nat → Bool} {p : Nat → Int} {fc : Nat} {z : Int} (hz : -2147483648 ≤ z ∧ z < 2147483648) (h : WW w0 ad w (c, g, t, A, mn, ov, dv, dm, nx, fl, q, qn, o, on, ln, m, r, p, fc)) (hon : on ≤ 40) (ho : ∀ k, (o k).1 < 10 ^ 10) : Mt G y_Mach_output w_Mach_output 7 1 6 [.ref (ad (0, 0)), .int (i32 z)] ad w (fun rv ad' w' => rv = some (.long (i64 (cond (o z.toNat).2 (-((o z.toNat).1 : Int)) (o z.toNat).1))) ∧ ad' = ad ∧ WW w0 ad w' (c, g, t, A, mn, ov, dv, dm, nx, fl, q, qn, o, on, ln, m, r, p, fc) ∧ (0 ≤ z ∧ z < (on : Int))) (fun C ad' w' => ad' = ad ∧ WW w0 ad w' (c, g, t, A, mn, ov, dv, dm, nx, fl, q, qn, o, on, ln, m, r, p, fc) ∧ C = "java/lang/IndexOutOfBoundsException" ∧ ¬ (0 ≤ z ∧ z < (on : Int))) := by
  refine Mt.to [some (.ref (ad (0, 0))), some (.int (i32 z))] (fun K hk hR hin => ?_)
  have h0 := h.m0
  have mg : ∀ b : Bool, b = decide (0 ≤ z ∧ z < (on : Int)) → V G K 2 (QE G K (fun rv ad' w' => rv = some (.long (i64 (cond (o z.toNat).2 (-((o z.toNat).1 : Int)) (o z.toNat).1))) ∧ ad' = ad ∧ WW w0 ad w' (c, g, t, A, mn, ov, dv, dm, nx, fl, q, qn, o, on, ln, m, r, p, fc) ∧ (0 ≤ z ∧ z < (on : Int))) (fun C ad' w' => ad' = ad ∧ WW w0 ad w' (c, g, t, A, mn, ov, dv, dm, nx, fl, q, qn, o, on, ln, m, r, p, fc) ∧ C = "java/lang/IndexOutOfBoundsException" ∧ ¬ (0 ≤ z ∧ z < (on : Int))) 1 6) 0 0 17 [some (.ref (ad (0, 0))), some (.int (i32 z))] [.int (i32 (b2i b))] ad w := by
    intro b hb
    refine r_must hk hR ml_Mach_250 (dk_at D_Mach_output 9 rfl) (fun c_17 => ⟨rfl, h, rfl, of_decide_eq_false (by rw [← hb]; exact c_17)⟩) (fun c_17 => ?_)
    have hc : 0 ≤ z ∧ z < (on : Int) := of_decide_eq_true (by rw [← hb]; exact c_17)
    obtain ⟨a, rfl⟩ : ∃ n : Nat, z = (n : Int) := ⟨z.toNat, by omega⟩
    have h24 := h.o24
    have hot := h.ot (k := a) (by omega)
    refine r_aload_n (i := 0) hk (dk_at D_Mach_output 10 rfl) rfl rfl ?_
    refine r_get hk fl_Mach_97 (dk_at D_Mach_output 11 rfl) ?_ (hw := h0)
    refine r_iload_n (i := 1) hk (dk_at D_Mach_output 12 rfl) rfl rfl ?_
    refine r_aaload (ix := a) hk (dk_at D_Mach_output 13 rfl) ?_
    refine r_callV hk hR m_Word_signed s_Word_signed ml_Mach_321 (dk_at D_Mach_output 14 rfl) (c_Word_signed G hot.1 hot.2 (ho a)) ?_ (i := (25, a)) (hw := hot.1)
    exact r_lret hk (dk_at D_Mach_output 15 rfl) ⟨rfl, rfl, h, hc⟩
  refine r_iload_n (i := 1) hk (dk_at D_Mach_output 0 rfl) rfl rfl ?_
  refine r_if_lt (t := 16) hk (dk_at D_Mach_output 1 rfl) (by decide) (by omega) (fun c_1 => ?_) (fun c_1 => ?_)
  · refine r_iconst hk (dk_at D_Mach_output 8 rfl) ?_
    exact mg false (decide_eq_false (by omega)).symm
  · refine r_iload_n (i := 1) hk (dk_at D_Mach_output 2 rfl) rfl rfl ?_
    refine r_aload_n (i := 0) hk (dk_at D_Mach_output 3 rfl) rfl rfl ?_
    refine r_get hk fl_Mach_135 (dk_at D_Mach_output 4 rfl) ?_
    refine r_icmp_ge (t := 16) hk (dk_at D_Mach_output 5 rfl) (by decide) (by omega) (by omega) (fun c_9 => ?_) (fun c_9 => ?_)
    · refine r_iconst hk (dk_at D_Mach_output 8 rfl) ?_
      exact mg false (decide_eq_false (by omega)).symm
    · refine r_iconst hk (dk_at D_Mach_output 6 rfl) ?_
      refine r_goto (t := 17) hk (dk_at D_Mach_output 7 rfl) (by decide) ?_
      exact mg true (decide_eq_true (by omega)).symm
