/-! the twin: numbers -/
theorem c_Mod_thrown (G : Gt) {w0 w : Wt} {ad : Ix → Nat} {cd : Int} {U : Int} {L : Int} {dv : Int} {mn : Bool} {dm : Bool} {ov : Bool} {nx : Int} {fl : Int} {t : Nat} {qn : Nat} {on : Nat} {m : Nat} {fu : Bool} {c : Nat → Nat → Nat} {g : Nat → Bool} {q : Nat → Nat × Bool} {o : Nat → Nat × Bool} {ln : Nat → Ln} {r : Nat → Bool} {p : Nat → Int} {hd : Nat → Bool} {at_ : Nat → Int} {wr : Nat → Int} (h : TX w0 ad w cd U L dv mn dm ov nx fl t qn on m fu c g q o ln r p hd at_ wr) : Mt G y_Mod_thrown w_Mod_thrown 0 0 0 [.ref (ad (50, 0))] ad w (ex (some (.int (i32 cd))) ad w) noT := by
  refine Mt.to [some (.ref (ad (50, 0)))] (fun K hk hR hin => ?_)
  refine r_aload_n (i := 0) hk (dk_at D_Mod_thrown 0 rfl) rfl rfl ?_
  refine r_get hk fl_Mod_61 (dk_at D_Mod_thrown 1 rfl) ?_ (hw := h.ob_)
  exact r_iret hk (dk_at D_Mod_thrown 2 rfl) ex.rf
theorem c_Mod_fail (G : Gt) {w0 w : Wt} {ad : Ix → Nat} {cd : Int} {U : Int} {L : Int} {dv : Int} {mn : Bool} {dm : Bool} {ov : Bool} {nx : Int} {fl : Int} {t : Nat} {qn : Nat} {on : Nat} {m : Nat} {fu : Bool} {c : Nat → Nat → Nat} {g : Nat → Bool} {q : Nat → Nat × Bool} {o : Nat → Nat × Bool} {ln : Nat → Ln} {r : Nat → Bool} {p : Nat → Int} {hd : Nat → Bool} {at_ : Nat → Int} {wr : Nat → Int} {z : Int} (h : TX w0 ad w cd U L dv mn dm ov nx fl t qn on m fu c g q o ln r p hd at_ wr) : Mt G y_Mod_fail w_Mod_fail 0 0 0 [.ref (ad (50, 0)), .int (i32 z)] ad w (fun rv ad' w' => rv = some (.int (i32 0)) ∧ ad' = ad ∧ TX w0 ad w' z U L dv mn dm ov nx fl t qn on m fu c g q o ln r p hd at_ wr) noT := by
  refine Mt.to [some (.ref (ad (50, 0))), some (.int (i32 z))] (fun K hk hR hin => ?_)
  refine r_aload_n (i := 0) hk (dk_at D_Mod_fail 0 rfl) rfl rfl ?_
  refine r_iload_n (i := 1) hk (dk_at D_Mod_fail 1 rfl) rfl rfl ?_
  refine r_put (fs' := [_, _, _, _, _, _, _, _, _, _, _, _, _, _, _, _, _, _, _, _, _, _, _, _, _, _, _, _]) hk fl_Mod_61 ft_Mod_0 (dk_at D_Mod_fail 2 rfl) ?_ (hw := h.ob_)
  refine r_iconst hk (dk_at D_Mod_fail 3 rfl) ?_
  exact r_iret hk (dk_at D_Mod_fail 4 rfl) ⟨rfl, rfl, h.sc⟩
theorem c_Mod_stop (G : Gt) {w0 w : Wt} {ad : Ix → Nat} {cd : Int} {U : Int} {L : Int} {dv : Int} {mn : Bool} {dm : Bool} {ov : Bool} {nx : Int} {fl : Int} {t : Nat} {qn : Nat} {on : Nat} {m : Nat} {fu : Bool} {c : Nat → Nat → Nat} {g : Nat → Bool} {q : Nat → Nat × Bool} {o : Nat → Nat × Bool} {ln : Nat → Ln} {r : Nat → Bool} {p : Nat → Int} {hd : Nat → Bool} {at_ : Nat → Int} {wr : Nat → Int} {z y : Int} (h : TX w0 ad w cd U L dv mn dm ov nx fl t qn on m fu c g q o ln r p hd at_ wr) : Mt G y_Mod_stop w_Mod_stop 0 0 0 [.ref (ad (50, 0)), .int (i32 z), .int (i32 y)] ad w (fun rv ad' w' => rv = some (.int (i32 (b2i false))) ∧ ad' = ad ∧ TX w0 ad w' cd U L dv mn dm ov y z t qn on m fu c g q o ln r p hd at_ wr) noT := by
  refine Mt.to [some (.ref (ad (50, 0))), some (.int (i32 z)), some (.int (i32 y))] (fun K hk hR hin => ?_)
  refine r_in h.ob_ ?_
  refine r_aload_n (i := 0) hk (dk_at D_Mod_stop 0 rfl) rfl rfl ?_
  refine r_iload_n (i := 1) hk (dk_at D_Mod_stop 1 rfl) rfl rfl ?_
  refine r_put (fs' := [_, _, _, _, _, _, _, _, _, _, _, _, _, _, _, _, _, _, _, _, _, _, _, _, _, _, _, _]) hk fl_Mod_105 ft_Mod_10 (dk_at D_Mod_stop 2 rfl) ?_ (hw := up_s)
  refine r_we up_up ?_
  refine r_aload_n (i := 0) hk (dk_at D_Mod_stop 3 rfl) rfl rfl ?_
  refine r_iload_n (i := 2) hk (dk_at D_Mod_stop 4 rfl) rfl rfl ?_
  refine r_put (fs' := [_, _, _, _, _, _, _, _, _, _, _, _, _, _, _, _, _, _, _, _, _, _, _, _, _, _, _, _]) hk fl_Mod_108 ft_Mod_9 (dk_at D_Mod_stop 5 rfl) ?_ (hw := up_s)
  refine r_we up_up ?_
  refine r_iconst hk (dk_at D_Mod_stop 6 rfl) ?_
  exact r_bret (b := false) hk (dk_at D_Mod_stop 7 rfl) ⟨rfl, rfl, h.sc⟩
theorem tm50 (x : Int) : (x.tmod 50 + 50) % 50 = x % 50 := by
  rcases Int.lt_or_le x 0 with h | h
  · have e : x.tmod 50 = -((-x) % 50) := by
      have h1 : (-x).tmod 50 = (-x) % 50 := Int.tmod_eq_emod_of_nonneg (by omega)
      have h2 : (-x).tmod 50 = -(x.tmod 50) := Int.neg_tmod x 50
      omega
    rw [e]
    omega
  · rw [Int.tmod_eq_emod_of_nonneg h]
    omega
theorem tmr (x : Int) : -50 < x.tmod 50 ∧ x.tmod 50 < 50 := by
  rcases Int.lt_or_le x 0 with h | h
  · have h1 : (-x).tmod 50 = (-x) % 50 := Int.tmod_eq_emod_of_nonneg (by omega)
    have h2 : (-x).tmod 50 = -(x.tmod 50) := Int.neg_tmod x 50
    omega
  · rw [Int.tmod_eq_emod_of_nonneg h]
    omega
theorem c_Mod_access (G : Gt) {w0 w : Wt} {ad : Ix → Nat} {cd : Int} {U : Int} {L : Int} {dv : Int} {mn : Bool} {dm : Bool} {ov : Bool} {nx : Int} {fl : Int} {t : Nat} {qn : Nat} {on : Nat} {m : Nat} {fu : Bool} {c : Nat → Nat → Nat} {g : Nat → Bool} {q : Nat → Nat × Bool} {o : Nat → Nat × Bool} {ln : Nat → Ln} {r : Nat → Bool} {p : Nat → Int} {hd : Nat → Bool} {at_ : Nat → Int} {wr : Nat → Int} {a : Nat} (h : TX w0 ad w cd U L dv mn dm ov nx fl t qn on m fu c g q o ln r p hd at_ wr) (ha : a < 200) (ht : t < 1000000000000) : Mt G y_Mod_access w_Mod_access 0 0 0 [.ref (ad (50, 0)), .int (i32 a)] ad w (fun rv ad' w' => rv = none ∧ ad' = ad ∧ TX w0 ad w' cd U L dv mn dm ov nx fl (comeT a t) qn on m fu c g q o ln r p hd at_ wr) noT := by
  refine Mt.to [some (.ref (ad (50, 0))), some (.int (i32 a))] (fun K hk hR hin => ?_)
  refine r_in h.ob_ ?_
  have hct := comeT_le a t
  have h50 := tm50 ((a : Int) - t)
  have hr := tmr ((a : Int) - t)
  refine r_aload_n (i := 0) hk (dk_at D_Mod_access 0 rfl) rfl rfl ?_
  refine r_dup hk (dk_at D_Mod_access 1 rfl) rfl ?_
  refine r_get hk fl_Mod_99 (dk_at D_Mod_access 2 rfl) ?_ (hw := up_s)
  refine r_iload_n (i := 1) hk (dk_at D_Mod_access 3 rfl) rfl rfl ?_
  refine r_i2l hk (dk_at D_Mod_access 4 rfl) (by omega) ?_
  refine r_aload_n (i := 0) hk (dk_at D_Mod_access 5 rfl) rfl rfl ?_
  refine r_get hk fl_Mod_99 (dk_at D_Mod_access 6 rfl) ?_ (hw := up_s)
  refine r_lsub hk (dk_at D_Mod_access 7 rfl) ?_
  refine r_ldc2 hk kl_Mod_103 (dk_at D_Mod_access 8 rfl) ?_
  refine r_lremS hk (dk_at D_Mod_access 9 rfl) (by omega) (by omega) ?_
  refine r_ldc2 hk kl_Mod_103 (dk_at D_Mod_access 10 rfl) ?_
  refine r_ladd hk (dk_at D_Mod_access 11 rfl) ?_
  refine r_ldc2 hk kl_Mod_103 (dk_at D_Mod_access 12 rfl) ?_
  refine r_lrem hk (dk_at D_Mod_access 13 rfl) (by omega) (by omega) ?_
  refine r_ladd hk (dk_at D_Mod_access 14 rfl) ?_
  refine r_topl (x' := ((comeT a t - 1 : Nat) : Int)) (by unfold comeT; omega) ?_
  refine r_put (fs' := [_, _, _, _, _, _, _, _, _, _, _, _, _, _, _, _, _, _, _, _, _, _, _, _, _, _, _, _]) hk fl_Mod_99 ft_Mod_11 (dk_at D_Mod_access 15 rfl) ?_ (hw := up_s)
  refine r_we up_up ?_
  refine r_aload_n (i := 0) hk (dk_at D_Mod_access 16 rfl) rfl rfl ?_
  refine r_dup hk (dk_at D_Mod_access 17 rfl) rfl ?_
  refine r_get hk fl_Mod_99 (dk_at D_Mod_access 18 rfl) ?_ (hw := up_s)
  refine r_lconst (z := 1) hk (dk_at D_Mod_access 19 rfl) rfl ?_
  refine r_ladd hk (dk_at D_Mod_access 20 rfl) ?_
  refine r_topl (x' := ((comeT a t : Nat) : Int)) (by unfold comeT; omega) ?_
  refine r_put (fs' := [_, _, _, _, _, _, _, _, _, _, _, _, _, _, _, _, _, _, _, _, _, _, _, _, _, _, _, _]) hk fl_Mod_99 ft_Mod_11 (dk_at D_Mod_access 21 rfl) ?_ (hw := up_s)
  refine r_we up_up ?_
  exact r_vret hk (dk_at D_Mod_access 22 rfl) ⟨rfl, rfl, h.sc⟩
theorem dA_ext {c d : Nat → Nat → Nat} (h : ∀ a k, k < 10 → c a k = d a k) : dA c = dA d := by
  funext n
  unfold dA
  rw [h (n / 10) (n % 10) (Nat.mod_lt _ (by decide))]
theorem c_Mod_write (G : Gt) {w0 w : Wt} {ad : Ix → Nat} {cd : Int} {U : Int} {L : Int} {dv : Int} {mn : Bool} {dm : Bool} {ov : Bool} {nx : Int} {fl : Int} {t : Nat} {qn : Nat} {on : Nat} {m : Nat} {fu : Bool} {c : Nat → Nat → Nat} {g : Nat → Bool} {q : Nat → Nat × Bool} {o : Nat → Nat × Bool} {ln : Nat → Ln} {r : Nat → Bool} {p : Nat → Int} {hd : Nat → Bool} {at_ : Nat → Int} {wr : Nat → Int} {a v : Nat} {sg : Bool} (h : TX w0 ad w cd U L dv mn dm ov nx fl t qn on m fu c g q o ln r p hd at_ wr) (ha : a < 200) (hv : v < 10 ^ 10) : Mt G y_Mod_write w_Mod_write 0 0 0 [.ref (ad (50, 0)), .int (i32 a), .long (i64 v), .int (i32 (b2i sg))] ad w (fun rv ad' w' => rv = none ∧ ad' = ad ∧ TX w0 ad w' cd U L dv mn dm ov nx fl t qn on m fu (fu_ c a (cdv v)) (fu_ g a sg) q o ln r p hd at_ wr) noT := by
  refine Mt.to [some (.ref (ad (50, 0))), some (.int (i32 a)), some (.long (i64 v)), none, some (.int (i32 (b2i sg))), none, none, none, none] (fun K hk hR hin => ?_)
  have loop : ∀ n : Nat, n ≤ 10 → ∀ (w : Wt) (u k : Int) (x : Option Value), u = ((v / 10 ^ n : Nat) : Int) → k = (n : Int) → TX w0 ad w cd U L dv mn dm ov nx fl t qn on m fu (fu_ c a (fun j => if j < n then cod (dgt v j) else c a j)) g q o ln r p hd at_ wr → V G K 9 (QE G K (fun rv ad' w' => rv = none ∧ ad' = ad ∧ TX w0 ad w' cd U L dv mn dm ov nx fl t qn on m fu (fu_ c a (cdv v)) (fu_ g a sg) q o ln r p hd at_ wr) noT 0 0) 0 0 6 [some (.ref (ad (50, 0))), some (.int (i32 a)), some (.long (i64 v)), none, some (.int (i32 (b2i sg))), some (.long (i64 u)), none, some (.int (i32 k)), x] [] ad w := by
    refine nup 10 (fun n hn ih w u k x hu hkk h => ?_)
    have hle : v / 10 ^ n ≤ v := Nat.div_le_self _ _
    have hpos : (0 : Int) ≤ ((v / 10 ^ n : Nat) : Int) := Int.natCast_nonneg _
    subst hkk
    have hob := h.ob_
    have hd_ := h.d_
    have hg_ := h.g_
    have hdg9 := dgt_lt v n
    have hq := dgt_step v n
    have hdn : u % 10 = ((dgt v n : Nat) : Int) := by
      show u % 10 = ((v / 10 ^ n % 10 : Nat) : Int)
      omega
    have h5 : dgt v n % 5 < 5 := Nat.mod_lt _ (by decide)
    have st : n < 10 → ∀ x9 : Option Value, V G K 9 (QE G K (fun rv ad' w' => rv = none ∧ ad' = ad ∧ TX w0 ad w' cd U L dv mn dm ov nx fl t qn on m fu (fu_ c a (cdv v)) (fu_ g a sg) q o ln r p hd at_ wr) noT 0 0) 0 0 53 [some (.ref (ad (50, 0))), some (.int (i32 a)), some (.long (i64 v)), none, some (.int (i32 (b2i sg))), some (.long (i64 u)), none, some (.int (i32 (n : Nat))), x9] [.int (i32 (cod (dgt v n) : Nat)), .int (i32 (10 * (a : Int) + (n : Int))), .ref (ad (51, 0))] ad w := by
      intro hn10 x9
      refine r_iastore (ix := (10 * a + n)) hk (dk_at D_Mod_write 31 rfl) ?_ (i := (51, 0)) (hw := hd_)
      rw [show updV (dA (fu_ c a (fun j => if j < n then cod (dgt v j) else c a j))) (10 * a + n) (.int (i32 (cod (dgt v n) : Nat))) = dA (fu_ c a (fun j => if j < (n + 1) then cod (dgt v j) else c a j)) from (updV_dA hn10).trans (dA_ext (fun b k _ => by
        by_cases e : b = a
        · rw [e]
          simp only [fu_s]
          by_cases e2 : k = n
          · rw [e2, fu_s, if_pos (by omega)]
          · rw [fu_n e2]
            by_cases e3 : k < n
            · rw [if_pos e3, if_pos (by omega)]
            · rw [if_neg e3, if_neg (by omega)]
        · rw [fu_n e, fu_n e, fu_n e]))]
      refine r_gp (fun w => TX w0 ad w cd U L dv mn dm ov nx fl t qn on m fu (fu_ c a (fun j => if j < (n + 1) then cod (dgt v j) else c a j)) g q o ln r p hd at_ wr) h.sd (fun w h => ?_)
      refine r_lload (i := 5) hk (dk_at D_Mod_write 32 rfl) rfl ?_
      refine r_ldc2 hk kl_Mod_67 (dk_at D_Mod_write 33 rfl) ?_
      refine r_ldiv hk (dk_at D_Mod_write 34 rfl) (by omega) (by omega) ?_
      refine r_lstore (i := 5) (ls' := [_, _, _, _, _, _, _, _, _]) hk (dk_at D_Mod_write 35 rfl) rfl rfl rfl ?_
      refine r_iinc (i := 7) (ls' := [_, _, _, _, _, _, _, _, _]) hk (dk_at D_Mod_write 36 rfl) rfl rfl rfl rfl ?_
      refine r_goto (t := 6) hk (dk_at D_Mod_write 37 rfl) (by decide) ?_
      exact ih hn10 w _ _ _ (by omega) (by omega) h
    refine r_iload (i := 7) hk (dk_at D_Mod_write 4 rfl) rfl ?_
    refine r_bipush hk (dk_at D_Mod_write 5 rfl) (by decide) ?_
    refine r_icmp_ge (t := 68) hk (dk_at D_Mod_write 6 rfl) (by decide) (by omega) (by omega) (fun c_10 => ?_) (fun c_10 => ?_)
    · obtain rfl : n = 10 := by omega
      refine r_aload_n (i := 0) hk (dk_at D_Mod_write 38 rfl) rfl rfl ?_
      refine r_get hk fl_Mod_13 (dk_at D_Mod_write 39 rfl) ?_ (hw := hob)
      refine r_iload_n (i := 1) hk (dk_at D_Mod_write 40 rfl) rfl rfl ?_
      refine r_iload (i := 4) hk (dk_at D_Mod_write 41 rfl) rfl ?_
      refine r_zastore (ix := a) hk (dk_at D_Mod_write 42 rfl) ?_ (b := sg) (hw := hg_)
      rw [updV_bA]
      exact r_vret hk (dk_at D_Mod_write 43 rfl) ⟨rfl, rfl, by
        have h9 := (h.sg (g' := fu_ g a sg))
        have e : dA (fu_ c a (fun j => if j < 10 then cod (dgt v j) else c a j)) = dA (fu_ c a (cdv v)) := dA_ext (fun b k hk => by
          by_cases e : b = a
          · rw [e, fu_s, fu_s, if_pos hk]; rfl
          · rw [fu_n e, fu_n e])
        obtain ⟨z0, z1, z2, z3⟩ := h9
        rw [e] at z2
        exact ⟨z0, z1, z2, z3⟩⟩
    · refine r_lload (i := 5) hk (dk_at D_Mod_write 7 rfl) rfl ?_
      refine r_ldc2 hk kl_Mod_67 (dk_at D_Mod_write 8 rfl) ?_
      refine r_lrem hk (dk_at D_Mod_write 9 rfl) (by omega) (by omega) ?_
      refine r_l2i hk (dk_at D_Mod_write 10 rfl) ?_
      refine r_topi (x' := ((dgt v n : Nat) : Int)) hdn ?_
      refine r_istore (i := 8) (ls' := [_, _, _, _, _, _, _, _, _]) hk (dk_at D_Mod_write 11 rfl) rfl rfl rfl ?_
      refine r_aload_n (i := 0) hk (dk_at D_Mod_write 12 rfl) rfl rfl ?_
      refine r_get hk fl_Mod_7 (dk_at D_Mod_write 13 rfl) ?_ (hw := hob)
      refine r_bipush hk (dk_at D_Mod_write 14 rfl) (by decide) ?_
      refine r_iload_n (i := 1) hk (dk_at D_Mod_write 15 rfl) rfl rfl ?_
      refine r_imul hk (dk_at D_Mod_write 16 rfl) ?_
      refine r_iload (i := 7) hk (dk_at D_Mod_write 17 rfl) rfl ?_
      refine r_iadd hk (dk_at D_Mod_write 18 rfl) ?_
      refine r_iconst hk (dk_at D_Mod_write 19 rfl) ?_
      refine r_iload (i := 8) hk (dk_at D_Mod_write 20 rfl) rfl ?_
      refine r_iconst hk (dk_at D_Mod_write 21 rfl) ?_
      refine r_irem hk (dk_at D_Mod_write 22 rfl) (by omega) (by omega) ?_
      refine r_topi (x' := ((dgt v n % 5 : Nat) : Int)) (by omega) ?_
      refine r_ishl hk (dk_at D_Mod_write 23 rfl) (shl1 _ (by omega)) ?_
      refine r_iload (i := 8) hk (dk_at D_Mod_write 24 rfl) rfl ?_
      refine r_iconst hk (dk_at D_Mod_write 25 rfl) ?_
      refine r_icmp_ge (t := 50) hk (dk_at D_Mod_write 26 rfl) (by decide) (by omega) (by omega) (fun c_42 => ?_) (fun c_42 => ?_)
      · refine r_bipush hk (dk_at D_Mod_write 29 rfl) (by decide) ?_
        first
          | (refine r_ior hk (dk_at D_Mod_write 30 rfl) (or32 _ h5) ?_
             have e : cod (dgt v n) = 2 ^ (dgt v n % 5) + 32 := by unfold cod; rw [if_pos (by omega)]
             rw [← e]
             exact st (by omega) _)
          | (refine r_ior hk (dk_at D_Mod_write 30 rfl) (or64 _ h5) ?_
             have e : cod (dgt v n) = 2 ^ (dgt v n % 5) + 64 := by unfold cod; rw [if_neg (by omega)]
             rw [← e]
             exact st (by omega) _)
      · refine r_bipush hk (dk_at D_Mod_write 27 rfl) (by decide) ?_
        refine r_goto (t := 52) hk (dk_at D_Mod_write 28 rfl) (by decide) ?_
        first
          | (refine r_ior hk (dk_at D_Mod_write 30 rfl) (or32 _ h5) ?_
             have e : cod (dgt v n) = 2 ^ (dgt v n % 5) + 32 := by unfold cod; rw [if_pos (by omega)]
             rw [← e]
             exact st (by omega) _)
          | (refine r_ior hk (dk_at D_Mod_write 30 rfl) (or64 _ h5) ?_
             have e : cod (dgt v n) = 2 ^ (dgt v n % 5) + 64 := by unfold cod; rw [if_neg (by omega)]
             rw [← e]
             exact st (by omega) _)
  refine r_lload_n (i := 2) hk (dk_at D_Mod_write 0 rfl) rfl rfl ?_
  refine r_lstore (i := 5) (ls' := [_, _, _, _, _, _, _, _, _]) hk (dk_at D_Mod_write 1 rfl) rfl rfl rfl ?_
  refine r_iconst hk (dk_at D_Mod_write 2 rfl) ?_
  refine r_istore (i := 7) (ls' := [_, _, _, _, _, _, _, _, _]) hk (dk_at D_Mod_write 3 rfl) rfl rfl rfl ?_
  refine loop 0 (Nat.zero_le _) w _ _ _ (by rw [dgt_0]) rfl ?_
  have e : fu_ c a (fun j => if j < 0 then cod (dgt v j) else c a j) = c := by
    have e2 : (fun j => if j < 0 then cod (dgt v j) else c a j) = c a := funext fun j => if_neg (by omega)
    rw [e2, fu_id]
  rw [e]
  exact h
def twV (f : Nat → Nat) : Int := if vld f = true then (val f : Int) else -1
theorem c_Mod_value (G : Gt) {w0 w : Wt} {ad : Ix → Nat} {cd : Int} {U : Int} {L : Int} {dv : Int} {mn : Bool} {dm : Bool} {ov : Bool} {nx : Int} {fl : Int} {t : Nat} {qn : Nat} {on : Nat} {m : Nat} {fu : Bool} {c : Nat → Nat → Nat} {g : Nat → Bool} {q : Nat → Nat × Bool} {o : Nat → Nat × Bool} {ln : Nat → Ln} {r : Nat → Bool} {p : Nat → Int} {hd : Nat → Bool} {at_ : Nat → Int} {wr : Nat → Int} {a : Nat} (h : TX w0 ad w cd U L dv mn dm ov nx fl t qn on m fu c g q o ln r p hd at_ wr) (ha : a < 200) (hc : ∀ a k, c a k < 128) : Mt G y_Mod_value w_Mod_value 1 0 0 [.ref (ad (50, 0)), .int (i32 a)] ad w (ex (some (.long (i64 (twV (c a))))) ad w) noT := by
  refine Mt.to [some (.ref (ad (50, 0))), some (.int (i32 a)), none, none, none, none, none] (fun K hk hR hin => ?_)
  have hob := h.ob_
  have hd_ := h.d_
  have loop : ∀ n : Nat, n ≤ 10 → ∀ (u k : Int) (b : Bool) (x : Option Value), (b = true → u = ((val (c a) / 10 ^ n : Nat) : Int) ∧ ∀ j, n ≤ j → j < 10 → deco (c a j) ≠ -1) → (b = false → ∃ j, n ≤ j ∧ j < 10 ∧ deco (c a j) = -1) → (-((10 ^ (10 - n) : Nat) : Int)) < u ∧ u < ((10 ^ (10 - n) : Nat) : Int) → k = (n : Int) - 1 → V G K 7 (QE G K (ex (some (.long (i64 (twV (c a))))) ad w) noT 0 0) 0 0 9 [some (.ref (ad (50, 0))), some (.int (i32 a)), some (.long (i64 u)), none, some (.int (i32 (b2i b))), some (.int (i32 k)), x] [] ad w := by
    refine ndown (fun n ih hn u k b x hb1 hb2 hur hkk => ?_)
    have hp : (10 : Nat) ^ (10 - n) ≤ 10 ^ 10 := p_le (by omega)
    generalize hP : (10 : Nat) ^ (10 - n) = P at hur hp
    refine r_iload (i := 5) hk (dk_at D_Mod_value 6 rfl) rfl ?_
    refine r_if_lt (t := 64) hk (dk_at D_Mod_value 7 rfl) (by decide) (by omega) (fun c_11 => ?_) (fun c_11 => ?_)
    · obtain rfl : n = 0 := by omega
      have ef : b = vld (c a) := by
        cases b
        · obtain ⟨j, -, h2, h3⟩ := hb2 rfl
          exact (vld_f h2 h3).symm
        · exact (vld_of (fun j hj => (hb1 rfl).2 j (Nat.zero_le _) hj)).symm
      refine r_iload (i := 4) hk (dk_at D_Mod_value 35 rfl) rfl ?_
      refine r_if_eqB (t := 73) hk (dk_at D_Mod_value 36 rfl) (by decide) (fun c_66 => ?_) (fun c_66 => ?_)
      · have e : twV (c a) = -1 := if_neg (by rw [← ef, c_66]; decide)
        rw [e]
        refine r_ldc2 hk kl_Mod_73 (dk_at D_Mod_value 39 rfl) ?_
        exact r_lret hk (dk_at D_Mod_value 40 rfl) ex.rf
      · have e : twV (c a) = ((val (c a) : Nat) : Int) := if_pos (by rw [← ef]; exact c_66)
        rw [e]
        obtain ⟨hu, -⟩ := hb1 c_66
        rw [dgt_0] at hu
        subst hu
        refine r_lload_n (i := 2) hk (dk_at D_Mod_value 37 rfl) rfl rfl ?_
        refine r_goto (t := 76) hk (dk_at D_Mod_value 38 rfl) (by decide) ?_
        exact r_lret hk (dk_at D_Mod_value 40 rfl) ex.rf
    · obtain ⟨m, rfl⟩ : ∃ m, n = m + 1 := ⟨n - 1, by omega⟩
      have hdr := deco_r (c a m)
      have hq := dgt_step (val (c a)) m
      have hvd := val_dgt (c a) m (by omega)
      have hP2 : (10 : Nat) ^ (10 - m) = 10 * P := by rw [← hP, show 10 - m = 10 - (m + 1) + 1 by omega, Nat.pow_succ, Nat.mul_comm]
      refine r_aload_n (i := 0) hk (dk_at D_Mod_value 8 rfl) rfl rfl ?_
      refine r_get hk fl_Mod_7 (dk_at D_Mod_value 9 rfl) ?_ (hw := hob)
      refine r_bipush hk (dk_at D_Mod_value 10 rfl) (by decide) ?_
      refine r_iload_n (i := 1) hk (dk_at D_Mod_value 11 rfl) rfl rfl ?_
      refine r_imul hk (dk_at D_Mod_value 12 rfl) ?_
      refine r_iload (i := 5) hk (dk_at D_Mod_value 13 rfl) rfl ?_
      refine r_iadd hk (dk_at D_Mod_value 14 rfl) ?_
      refine r_iaload (ix := (10 * a + m)) hk (dk_at D_Mod_value 15 rfl) ?_ (hw := hd_)
      refine r_top (show dA c (10 * a + m) = .int (i32 (c a m)) by unfold dA; rw [show (10 * a + m) / 10 = a by omega, show (10 * a + m) % 10 = m by omega]) ?_
      refine r_callS hk hR m_Mod_digitOf s_Mod_digitOf ml_Mod_69 (dk_at D_Mod_value 16 rfl) (c_Mod_digitOf G (hc a m)) ?_
      refine r_istore (i := 6) (ls' := [_, _, _, _, _, _, _]) hk (dk_at D_Mod_value 17 rfl) rfl rfl rfl ?_
      have m46 : ∀ g2 : Bool, g2 = (b && decide (0 ≤ deco (c a m))) → V G K 7 (QE G K (ex (some (.long (i64 (twV (c a))))) ad w) noT 0 0) 0 0 46 [some (.ref (ad (50, 0))), some (.int (i32 a)), some (.long (i64 u)), none, some (.int (i32 (b2i b))), some (.int (i32 k)), some (.int (i32 (deco (c a m))))] [.int (i32 (b2i g2))] ad w := by
        intro g2 hg2
        refine r_istore (i := 4) (ls' := [_, _, _, _, _, _, _]) hk (dk_at D_Mod_value 25 rfl) rfl rfl rfl ?_
        refine r_ldc2 hk kl_Mod_67 (dk_at D_Mod_value 26 rfl) ?_
        refine r_lload_n (i := 2) hk (dk_at D_Mod_value 27 rfl) rfl rfl ?_
        refine r_lmul hk (dk_at D_Mod_value 28 rfl) ?_
        refine r_iload (i := 6) hk (dk_at D_Mod_value 29 rfl) rfl ?_
        refine r_i2l hk (dk_at D_Mod_value 30 rfl) (by omega) ?_
        refine r_ladd hk (dk_at D_Mod_value 31 rfl) ?_
        refine r_lstore_n (i := 2) (ls' := [_, _, _, _, _, _, _]) hk (dk_at D_Mod_value 32 rfl) rfl rfl rfl rfl ?_
        refine r_iinc (i := 5) (ls' := [_, _, _, _, _, _, _]) hk (dk_at D_Mod_value 33 rfl) rfl rfl rfl rfl ?_
        refine r_goto (t := 9) hk (dk_at D_Mod_value 34 rfl) (by decide) ?_
        refine ih m rfl (by omega) _ _ _ _ (fun z => ?_) (fun z => ?_) (by rw [hP2]; omega) (by omega)
        · rw [z] at hg2
          have h8 := hg2.symm
          simp only [Bool.and_eq_true, decide_eq_true_eq] at h8
          obtain ⟨h9, h10⟩ := hb1 h8.1
          refine ⟨by omega, fun j h1 h2 => ?_⟩
          by_cases e : j = m
          · rw [e]; omega
          · exact h10 j (by omega) h2
        · rw [z] at hg2
          have h8 := hg2.symm
          simp only [Bool.and_eq_false_iff, decide_eq_false_iff_not] at h8
          rcases h8 with h8 | h8
          · obtain ⟨j, h1, h2, h3⟩ := hb2 h8
            exact ⟨j, by omega, h2, h3⟩
          · exact ⟨m, Nat.le_refl _, by omega, by omega⟩
      refine r_iload (i := 4) hk (dk_at D_Mod_value 18 rfl) rfl ?_
      refine r_if_eqB (t := 45) hk (dk_at D_Mod_value 19 rfl) (by decide) (fun c_33 => ?_) (fun c_33 => ?_)
      · refine r_iconst hk (dk_at D_Mod_value 24 rfl) ?_
        exact m46 false (by rw [c_33]; rfl)
      · refine r_iload (i := 6) hk (dk_at D_Mod_value 20 rfl) rfl ?_
        refine r_if_lt (t := 45) hk (dk_at D_Mod_value 21 rfl) (by decide) (by omega) (fun c_38 => ?_) (fun c_38 => ?_)
        · refine r_iconst hk (dk_at D_Mod_value 24 rfl) ?_
          exact m46 false (by rw [decide_eq_false (by omega), Bool.and_false])
        · refine r_iconst hk (dk_at D_Mod_value 22 rfl) ?_
          refine r_goto (t := 46) hk (dk_at D_Mod_value 23 rfl) (by decide) ?_
          exact m46 true (by rw [c_33, decide_eq_true (by omega)]; rfl)
  refine r_lconst (z := 0) hk (dk_at D_Mod_value 0 rfl) rfl ?_
  refine r_lstore_n (i := 2) (ls' := [_, _, _, _, _, _, _]) hk (dk_at D_Mod_value 1 rfl) rfl rfl rfl rfl ?_
  refine r_iconst hk (dk_at D_Mod_value 2 rfl) ?_
  refine r_istore (i := 4) (ls' := [_, _, _, _, _, _, _]) hk (dk_at D_Mod_value 3 rfl) rfl rfl rfl ?_
  refine r_bipush hk (dk_at D_Mod_value 4 rfl) (by decide) ?_
  refine r_istore (i := 5) (ls' := [_, _, _, _, _, _, _]) hk (dk_at D_Mod_value 5 rfl) rfl rfl rfl ?_
  exact loop 10 (Nat.le_refl _) _ _ true _ (fun _ => ⟨by rw [Nat.div_eq_of_lt (val_lt _)]; rfl, fun j h1 h2 => by omega⟩) (fun z => by cases z) (by show (-((10 ^ 0 : Nat) : Int)) < 0 ∧ (0 : Int) < ((10 ^ 0 : Nat) : Int); decide) rfl
theorem c_Mod_forgetPlaces (G : Gt) {w0 w : Wt} {ad : Ix → Nat} {cd : Int} {U : Int} {L : Int} {dv : Int} {mn : Bool} {dm : Bool} {ov : Bool} {nx : Int} {fl : Int} {t : Nat} {qn : Nat} {on : Nat} {m : Nat} {fu : Bool} {c : Nat → Nat → Nat} {g : Nat → Bool} {q : Nat → Nat × Bool} {o : Nat → Nat × Bool} {ln : Nat → Ln} {r : Nat → Bool} {p : Nat → Int} {hd : Nat → Bool} {at_ : Nat → Int} {wr : Nat → Int} (h : TX w0 ad w cd U L dv mn dm ov nx fl t qn on m fu c g q o ln r p hd at_ wr) : Mt G y_Mod_forgetPlaces w_Mod_forgetPlaces 0 0 0 [.ref (ad (50, 0))] ad w (fun rv ad' w' => rv = none ∧ ad' = ad ∧ TX w0 ad w' cd U L dv mn dm ov nx fl t qn on m fu c g q o ln r noP hd at_ wr) noT := by
  refine Mt.to [some (.ref (ad (50, 0))), none] (fun K hk hR hin => ?_)
  have hob := h.ob_
  have loop : ∀ n : Nat, n ≤ 20 → ∀ (k : Int) (f : Nat → Value), k = (n : Int) → (∀ j, j < n → f j = iA noP j) → V G K 2 (QE G K (fun rv ad' w' => rv = none ∧ ad' = ad ∧ TX w0 ad w' cd U L dv mn dm ov nx fl t qn on m fu c g q o ln r noP hd at_ wr) noT 0 0) 0 0 2 [some (.ref (ad (50, 0))), some (.int (i32 k))] [] ad (up w (61, 0) (some (.inr (0, 20, f)))) := by
    refine nup 20 (fun n hn ih k f hkk hf => ?_)
    refine r_iload_n (i := 1) hk (dk_at D_Mod_forgetPlaces 2 rfl) rfl rfl ?_
    refine r_bipush hk (dk_at D_Mod_forgetPlaces 3 rfl) (by decide) ?_
    refine r_icmp_ge (t := 21) hk (dk_at D_Mod_forgetPlaces 4 rfl) (by decide) (by omega) (by omega) (fun c_5 => ?_) (fun c_5 => ?_)
    · obtain rfl : n = 20 := by omega
      refine r_arr hf ?_
      exact r_vret hk (dk_at D_Mod_forgetPlaces 12 rfl) ⟨rfl, rfl, h.sp⟩
    · refine r_aload_n (i := 0) hk (dk_at D_Mod_forgetPlaces 5 rfl) rfl rfl ?_
      refine r_get hk fl_Mod_42 (dk_at D_Mod_forgetPlaces 6 rfl) ?_ (hw := (up_n (by intro e; cases e)).trans hob)
      refine r_iload_n (i := 1) hk (dk_at D_Mod_forgetPlaces 7 rfl) rfl rfl ?_
      refine r_iconst hk (dk_at D_Mod_forgetPlaces 8 rfl) ?_
      refine r_iastoreU (ix := n) hk (dk_at D_Mod_forgetPlaces 9 rfl) ?_
      refine r_iinc (i := 1) (ls' := [_, _]) hk (dk_at D_Mod_forgetPlaces 10 rfl) rfl rfl rfl rfl ?_
      refine r_goto (t := 2) hk (dk_at D_Mod_forgetPlaces 11 rfl) (by decide) ?_
      exact ih (by omega) _ _ (by omega) (ext_s hf rfl)
  refine r_iconst hk (dk_at D_Mod_forgetPlaces 0 rfl) ?_
  refine r_istore_n (i := 1) (ls' := [_, _]) hk (dk_at D_Mod_forgetPlaces 1 rfl) rfl rfl rfl rfl ?_
  refine r_in h.p_ ?_
  exact loop 0 (Nat.zero_le _) _ _ rfl ext_0
