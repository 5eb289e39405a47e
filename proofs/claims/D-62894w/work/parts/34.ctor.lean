/-! constructors: Drum, Accumulator, Assembler, DrumMachine -/
def adOn (lo hi : Nat) (ad ad' : Ix → Nat) : Prop := ∀ i : Ix, (Nat.ble lo i.1 && Nat.ble i.1 hi) = true → ad' i = ad i
theorem sW.mv {ad ad' : Ix → Nat} {w w' : Wt} {i j : Ix} (h : sW ad w i j) (h1 : w' i = w i) (h2 : w' j = w j) (ha : ad' j = ad j) : sW ad' w' i j := by
  obtain ⟨x, f, a, b⟩ := h
  exact ⟨x, f, by rw [h1, a, ha], h2.trans b⟩
theorem tW.mv {ad ad' : Ix → Nat} {w w' : Wt} {i j : Ix} {v : Nat} {sg : Bool} (h : tW ad w i j v sg) (h1 : w' i = w i) (h2 : w' j = w j) (ha : ad' j = ad j) : tW ad' w' i j v sg := ⟨by rw [h1, h.1, wo, wo, ha], h2.trans h.2⟩
theorem wD.mv {ad ad' : Ix → Nat} {w w' : Wt} {c : Nat → Nat → Nat} {g : Nat → Bool} {t : Nat} (h : wD ad w c g t) (e : eqOn 1 3 w w') (a : adOn 2 3 ad ad') : wD ad' w' c g t := by
  obtain ⟨h1, h2, h3⟩ := h
  refine ⟨by rw [e (1, 0) rfl, h1, dr, dr, a (2, 0) rfl], ?_, fun x hx => (e (3, x) rfl).trans (h3 x hx)⟩
  rw [e (2, 0) rfl, h2, cdf, cdf]
  have : (fun x => Value.ref (ad' (3, x))) = fun x => Value.ref (ad (3, x)) := funext fun x => by rw [a (3, x) rfl]
  rw [this]
theorem wA.mv {ad ad' : Ix → Nat} {w w' : Wt} {A : Nat} {mn ov : Bool} (h : wA ad w A mn ov) (e : eqOn 4 9 w w') (a : adOn 5 9 ad ad') : wA ad' w' A mn ov :=
  ⟨by rw [e (4, 0) rfl, h.1, ac, ac, a (5, 0) rfl, a (6, 0) rfl, a (8, 0) rfl], (e (5, 0) rfl).trans h.2.1, h.2.2.1.mv (e (6, 0) rfl) (e (7, 0) rfl) (a (7, 0) rfl), h.2.2.2.mv (e (8, 0) rfl) (e (9, 0) rfl) (a (9, 0) rfl)⟩
theorem wS0.mv {ad ad' : Ix → Nat} {w w' : Wt} {ln : Nat → Ln} {r : Nat → Bool} {p : Nat → Int} (h : wS ad w ln 0 r p) (e : eqOn 16 20 w w') (a : adOn 17 20 ad ad') : wS ad' w' ln 0 r p := by
  obtain ⟨op, fu, gv, x, y, z, h1, ⟨f, h2, -⟩, h3, h4, h5, -⟩ := h
  exact ⟨op, fu, gv, x, y, z, by rw [e (16, 0) rfl, h1, aO, aO, a (17, 0) rfl, a (18, 0) rfl, a (19, 0) rfl, a (20, 0) rfl], ⟨f, (e (17, 0) rfl).trans h2, fun k hk => by omega⟩, (e (18, 0) rfl).trans h3, (e (19, 0) rfl).trans h4, (e (20, 0) rfl).trans h5, fun k hk => by omega⟩
def in_fam (lo hi : Nat) (i : Ix) : Bool := Nat.ble lo i.1 && Nat.ble i.1 hi
theorem c_Drum_init (G : Gt) {ad : Ix → Nat} {w : Wt} (h1 : w (1, 0) = some (.inl (1, [.null, .long (i64 0)]))) (h2 : w (2, 0) = none) (h3 : ∀ k, w (3, k) = none) : Mt G y_Drum_init w_Drum_init 1 201 2400 [.ref (ad (1, 0))] ad w (fun rv ad' w' => rv = none ∧ (∀ i : Ix, in_fam 2 3 i = false → ad' i = ad i) ∧ (∀ i : Ix, in_fam 1 3 i = false → w' i = w i) ∧ wD ad' w' (fun _ => cdv 0) (fun _ => false) 0) noT := by
  refine Mt.to [some (.ref (ad (1, 0))), none, none] (fun K hk hR hin => ?_)
  have hR' := hR
  obtain ⟨r1, r2, r3, r4⟩ := hR'
  have lp : ∀ ad' : Ix → Nat, ad' (1, 0) = ad (1, 0) → (∀ i : Ix, in_fam 2 3 i = false → ad' i = ad i) → ∀ n : Nat, n ≤ 200 → ∀ (w1 : Wt) (y : Int) (x : Option Value), y = (n : Int) → (w1 (1, 0) = some (dr ad' 0) ∧ w1 (2, 0) = some (cdf ad') ∧ (∀ b, b < n → w1 (3, b) = some (rw_ (cdv 0) false)) ∧ (∀ b, n ≤ b → b < 200 → w1 (3, b) = some (.inr (3, 11, fun _ => .int 0))) ∧ ∀ i : Ix, in_fam 1 3 i = false → w1 i = w i) → V G K 3 (QE G K (fun rv ad' w' => rv = none ∧ (∀ i : Ix, in_fam 2 3 i = false → ad' i = ad i) ∧ (∀ i : Ix, in_fam 1 3 i = false → w' i = w i) ∧ wD ad' w' (fun _ => cdv 0) (fun _ => false) 0) noT 201 2400) 201 2400 19 [some (.ref (ad' (1, 0))), some (.int (i32 y)), x] [] ad' w1 := by
    intro ad' ha1 hax
    refine nup 200 (fun n hn ih w1 y x hy hP => ?_)
    subst hy
    obtain ⟨p1, p2, p3, p4, p5⟩ := hP
    have inner : n < 200 → ∀ k : Nat, k ≤ 10 → ∀ (z : Int) (f : Nat → Value), z = (k : Int) → (∀ j, j < k → f j = rwf (cdv 0) false j) → (∀ j, k ≤ j → f j = .int 0) → V G K 3 (QE G K (fun rv ad' w' => rv = none ∧ (∀ i : Ix, in_fam 2 3 i = false → ad' i = ad i) ∧ (∀ i : Ix, in_fam 1 3 i = false → w' i = w i) ∧ wD ad' w' (fun _ => cdv 0) (fun _ => false) 0) noT 201 2400) 201 2400 28 [some (.ref (ad' (1, 0))), some (.int (i32 (n : Nat))), some (.int (i32 z))] [] ad' (up w1 (3, n) (some (.inr (3, 11, f)))) := by
      intro hn2
      refine nup 10 (fun k hk10 ih2 z f hz hf hg => ?_)
      subst hz
      refine r_iload_n (i := 2) hk (dk_at D_Drum_init 14 rfl) rfl rfl ?_
      refine r_bipush hk (dk_at D_Drum_init 15 rfl) (by decide) ?_
      refine r_icmp_ge (t := 52) hk (dk_at D_Drum_init 16 rfl) (by decide) (by omega) (by omega) (fun c_31 => ?_) (fun c_31 => ?_)
      · obtain rfl : k = 10 := by omega
        refine r_arr (g := rwf (cdv 0) false) (fun j hj => ?_) ?_
        · by_cases e : j < 10
          · exact hf j e
          · obtain rfl : j = 10 := by omega
            rw [hg 10 (by omega)]; rfl
        refine r_iinc (i := 1) (ls' := [_, _, _]) hk (dk_at D_Drum_init 27 rfl) rfl rfl rfl rfl ?_
        refine r_goto (t := 19) hk (dk_at D_Drum_init 28 rfl) (by decide) ?_
        refine ih hn2 _ _ _ (by omega) ⟨(up_n (by intro e; cases e)).trans p1, (up_n (by intro e; cases e)).trans p2, fun b hb => ?_, fun b hb hb2 => ?_, fun i hi => ?_⟩
        · by_cases e : b = n
          · rw [e, up_s]
          · rw [up_n (fun z => e (congrArg Prod.snd z))]; exact p3 b (by omega)
        · rw [up_n (fun z => by have := congrArg Prod.snd z; simp only at this; omega)]; exact p4 b (by omega) hb2
        · rw [up_n (fun z => by rw [z] at hi; cases hi)]; exact p5 i hi
      · refine r_aload_n (i := 0) hk (dk_at D_Drum_init 17 rfl) rfl rfl ?_
        refine r_get hk fl_Drum_11 (dk_at D_Drum_init 18 rfl) ?_ (hw := (up_n (by intro e; cases e)).trans p1)
        refine r_iload_n (i := 1) hk (dk_at D_Drum_init 19 rfl) rfl rfl ?_
        refine r_aaload (ix := n) hk (dk_at D_Drum_init 20 rfl) ?_ (hw := (up_n (by intro e; cases e)).trans p2)
        refine r_iload_n (i := 2) hk (dk_at D_Drum_init 21 rfl) rfl rfl ?_
        refine r_iconst hk (dk_at D_Drum_init 22 rfl) ?_
        refine r_callS hk hR m_Drum_code s_Drum_code ml_Drum_16 (dk_at D_Drum_init 23 rfl) (c_Drum_code G (d := 0) (by decide)) ?_
        refine r_bastoreU (ix := k) hk (dk_at D_Drum_init 24 rfl) ?_ (x := ((cod 0 : Nat) : Int)) (i := (3, n)) (hx := by decide)
        refine r_iinc (i := 2) (ls' := [_, _, _]) hk (dk_at D_Drum_init 25 rfl) rfl rfl rfl rfl ?_
        refine r_goto (t := 28) hk (dk_at D_Drum_init 26 rfl) (by decide) ?_
        exact ih2 (by omega) _ _ (by omega) (ext_s hf (by rw [rwf_lo (by omega)]; show _ = Value.int (i32 ((cod (0 / 10 ^ k % 10) : Nat) : Int)); rw [Nat.zero_div])) (fun j hj => by rw [updV_n (by omega)]; exact hg j (by omega))
    refine r_iload_n (i := 1) hk (dk_at D_Drum_init 9 rfl) rfl rfl ?_
    refine r_sipush hk (dk_at D_Drum_init 10 rfl) (by decide) ?_
    refine r_icmp_ge (t := 58) hk (dk_at D_Drum_init 11 rfl) (by decide) (by omega) (by omega) (fun c_23 => ?_) (fun c_23 => ?_)
    · obtain rfl : n = 200 := by omega
      exact r_vret hk (dk_at D_Drum_init 29 rfl) ⟨rfl, hax, p5, p1, p2, p3⟩
    · refine r_iconst hk (dk_at D_Drum_init 12 rfl) ?_
      refine r_istore_n (i := 2) (ls' := [_, _, _]) hk (dk_at D_Drum_init 13 rfl) rfl rfl rfl rfl ?_
      refine r_in (p4 n (Nat.le_refl _) (by omega)) ?_
      exact inner (by omega) 0 (Nat.zero_le _) _ _ rfl ext_0 (fun j hj => rfl)
  refine r_aload_n (i := 0) hk (dk_at D_Drum_init 0 rfl) rfl rfl ?_
  refine r_objInit hk mo_Drum_3 oi_1 oi_2 (dk_at D_Drum_init 1 rfl) ⟨by omega, by omega⟩ (by decide) ?_
  refine r_aload_n (i := 0) hk (dk_at D_Drum_init 2 rfl) rfl rfl ?_
  refine r_sipush hk (dk_at D_Drum_init 3 rfl) (by decide) ?_
  refine r_bipush hk (dk_at D_Drum_init 4 rfl) (by decide) ?_
  refine r_multi hk cl_Drum_9 (dk_at D_Drum_init 5 rfl) h2 h3 (by omega) (by omega) (fun a => ?_)
  refine r_putF (fs' := [_, _]) hk hin fl_Drum_11 ft_Drum_0 rfl (dk_at D_Drum_init 6 rfl) ?_ (i := (1, 0)) (hw := (upR_n (by decide)).trans ((up_n (by intro e; cases e)).trans h1))
  refine r_iconst hk (dk_at D_Drum_init 7 rfl) ?_
  refine r_istore_n (i := 1) (ls' := [_, _, _]) hk (dk_at D_Drum_init 8 rfl) rfl rfl rfl rfl ?_
  refine lp (upR (up ad (2, 0) a) 3 200 (fun k => a + 1 + k)) rfl (fun i hi => ?_) 0 (Nat.zero_le _) _ _ _ rfl ⟨up_s, ?_, fun b hb => by omega, fun b _ hb => ?_, fun i hi => ?_⟩
  · have e1 : i.1 ≠ 3 := fun z => by unfold in_fam at hi; rw [z] at hi; cases hi
    have e2 : i ≠ (2, 0) := fun z => by rw [z] at hi; cases hi
    rw [upR_n e1, up_n e2]
  · rw [up_n (by intro e; cases e), upR_n (by decide), up_s]
  · rw [up_n (by intro e; cases e)]; exact upR_s hb
  · have e1 : i.1 ≠ 3 := fun z => by unfold in_fam at hi; rw [z] at hi; cases hi
    have e2 : i ≠ (2, 0) := fun z => by rw [z] at hi; cases hi
    have e3 : i ≠ (1, 0) := fun z => by rw [z] at hi; cases hi
    rw [up_n e3, upR_n e1, up_n e2]
theorem in_it_Word : Cond.initialized "DrumMachine$Word" ∈ tw := tw_mem 4 (by decide +kernel) rfl
theorem c_Acc_init (G : Gt) {ad : Ix → Nat} {w : Wt} (h4 : w (4, 0) = some (.inl (2, [.null, .int (i32 0), .int (i32 0), .null, .null]))) (h5 : w (5, 0) = none) (h6 : w (6, 0) = none) (h7 : w (7, 0) = none) (h8 : w (8, 0) = none) (h9 : w (9, 0) = none) : Mt G y_Acc_init w_Acc_init 2 5 44 [.ref (ad (4, 0))] ad w (fun rv ad' w' => rv = none ∧ (∀ i : Ix, in_fam 5 9 i = false → ad' i = ad i) ∧ (∀ i : Ix, in_fam 4 9 i = false → w' i = w i) ∧ wA ad' w' 0 false false) noT := by
  refine Mt.to [some (.ref (ad (4, 0)))] (fun K hk hR hin => ?_)
  have hR' := hR
  obtain ⟨r1, r2, r3, r4⟩ := hR'
  refine r_aload_n (i := 0) hk (dk_at D_Acc_init 0 rfl) rfl rfl ?_
  refine r_objInit hk mo_Acc_3 oi_1 oi_2 (dk_at D_Acc_init 1 rfl) ⟨by omega, by omega⟩ (by decide) ?_
  refine r_aload_n (i := 0) hk (dk_at D_Acc_init 2 rfl) rfl rfl ?_
  refine r_bipush hk (dk_at D_Acc_init 3 rfl) (by decide) ?_
  refine r_newarr (t := 0) (n := 20) (i := (5, 0)) hk (dk_at D_Acc_init 4 rfl) h5 rfl rfl rfl rfl (by omega) (by omega) (fun a5 => ?_)
  refine r_w ((wEq.rf w).up (cEq.ar (g := dg 0) (fun k _ => (by show Value.int 0 = .int (i32 ((0 / 10 ^ k % 10 : Nat) : Int)); rw [Nat.zero_div]; rfl)))) ?_
  refine r_putF (fs' := [_, _, _, _, _]) hk hin fl_Acc_9 ft_Acc_0 rfl (dk_at D_Acc_init 5 rfl) ?_ (i := (4, 0)) (hw := (up_n (by intro e; cases e)).trans h4)
  refine r_gp (fun w2 => w2 (4, 0) = some (.inl (2, [.ref a5, .int (i32 0), .int (i32 0), .null, .null])) ∧ w2 (5, 0) = some (aa 0) ∧ w2 (6, 0) = none ∧ w2 (7, 0) = none ∧ w2 (8, 0) = none ∧ w2 (9, 0) = none ∧ ∀ i : Ix, in_fam 4 9 i = false → w2 i = w i) ⟨up_s, (up_n (by intro e; cases e)).trans up_s, h6, h7, h8, h9, fun i hi => (up_n (fun z => by rw [z] at hi; cases hi)).trans (up_n (fun z => by rw [z] at hi; cases hi))⟩ (fun w2 hP => ?_)
  obtain ⟨p4, p5, p6, p7, p8, p9, pw⟩ := hP
  refine r_aload_n (i := 0) hk (dk_at D_Acc_init 6 rfl) rfl rfl ?_
  refine r_new (i := (6, 0)) (ci := 3) (fs := [.null, .int (i32 0)]) hk cl_Acc_15 in_Word in_it_Word rfl (dk_at D_Acc_init 7 rfl) p6 (by intro r hr k hk9; cases hr; revert k; decide +kernel) (by omega) (by omega) (fun a6 => ?_)
  refine r_dup hk (dk_at D_Acc_init 8 rfl) rfl ?_
  refine r_callIp hk hR m_Word_init s_Word_init ml_Acc_17 (dk_at D_Acc_init 9 rfl) (c_Word_init G (i := (6, 0)) (j := (7, 0)) up_s up_s ((up_n (by intro e; cases e)).trans p7)) (fun v ad2 w2 hp => ?_) VT_no
  obtain ⟨rfl, a7, rfl, rfl⟩ := hp
  refine r_putF (fs' := [_, _, _, _, _]) hk hin fl_Acc_18 ft_Acc_3 rfl (dk_at D_Acc_init 10 rfl) ?_ (i := (4, 0)) (hw := (up_n (by intro e; cases e)).trans ((up_n (by intro e; cases e)).trans ((up_n (by intro e; cases e)).trans p4)))
  refine r_aload_n (i := 0) hk (dk_at D_Acc_init 11 rfl) rfl rfl ?_
  refine r_new (i := (8, 0)) (ci := 3) (fs := [.null, .int (i32 0)]) hk cl_Acc_15 in_Word in_it_Word rfl (dk_at D_Acc_init 12 rfl) ((up_n (by intro e; cases e)).trans ((up_n (by intro e; cases e)).trans ((up_n (by intro e; cases e)).trans ((up_n (by intro e; cases e)).trans p8)))) (by intro r hr k hk9; cases hr; revert k; decide +kernel) (by omega) (by omega) (fun a8 => ?_)
  refine r_dup hk (dk_at D_Acc_init 13 rfl) rfl ?_
  refine r_callIp hk hR m_Word_init s_Word_init ml_Acc_17 (dk_at D_Acc_init 14 rfl) (c_Word_init G (i := (8, 0)) (j := (9, 0)) up_s up_s ((up_n (by intro e; cases e)).trans ((up_n (by intro e; cases e)).trans ((up_n (by intro e; cases e)).trans ((up_n (by intro e; cases e)).trans ((up_n (by intro e; cases e)).trans p9)))))) (fun v ad2 w2 hp => ?_) VT_no
  obtain ⟨rfl, a9, rfl, rfl⟩ := hp
  refine r_putF (fs' := [_, _, _, _, _]) hk hin fl_Acc_22 ft_Acc_4 rfl (dk_at D_Acc_init 15 rfl) ?_ (i := (4, 0)) (hw := (up_n (by intro e; cases e)).trans ((up_n (by intro e; cases e)).trans ((up_n (by intro e; cases e)).trans up_s)))
  refine r_vret hk (dk_at D_Acc_init 16 rfl) ⟨rfl, fun i hi => ?_, fun i hi => ?_, ?_⟩
  · have e5 : i ≠ (5, 0) := fun z => by rw [z] at hi; cases hi
    have e6 : i ≠ (6, 0) := fun z => by rw [z] at hi; cases hi
    have e7 : i ≠ (7, 0) := fun z => by rw [z] at hi; cases hi
    have e8 : i ≠ (8, 0) := fun z => by rw [z] at hi; cases hi
    have e9 : i ≠ (9, 0) := fun z => by rw [z] at hi; cases hi
    rw [up_n e9, up_n e8, up_n e7, up_n e6, up_n e5]
  · have e4 : i ≠ (4, 0) := fun z => by rw [z] at hi; cases hi
    have e6 : i ≠ (6, 0) := fun z => by rw [z] at hi; cases hi
    have e7 : i ≠ (7, 0) := fun z => by rw [z] at hi; cases hi
    have e8 : i ≠ (8, 0) := fun z => by rw [z] at hi; cases hi
    have e9 : i ≠ (9, 0) := fun z => by rw [z] at hi; cases hi
    rw [up_n e4, up_n e8, up_n e9, up_n e8, up_n e4, up_n e6, up_n e7, up_n e6]
    exact pw i hi
  · exact ⟨up_s, p5, ⟨_, _, rfl, rfl⟩, ⟨_, _, rfl, rfl⟩⟩
theorem c_Asm_init (G : Gt) {ad : Ix → Nat} {w : Wt} (h16 : w (16, 0) = some (.inl (4, [.null, .int (i32 0), .null, .null, .null, .int (i32 0), .int (i32 0)]))) (h17 : w (17, 0) = none) (h18 : w (18, 0) = none) (h19 : w (19, 0) = none) (h20 : w (20, 0) = none) : Mt G y_Asm_init w_Asm_init 1 4 460 [.ref (ad (16, 0))] ad w (fun rv ad' w' => rv = none ∧ (∀ i : Ix, in_fam 17 20 i = false → ad' i = ad i) ∧ (∀ i : Ix, in_fam 16 20 i = false → w' i = w i) ∧ wS ad' w' (fun _ => (0, 0, 0, 0)) 0 (fun _ => false) noP) noT := by
  refine Mt.to [some (.ref (ad (16, 0)))] (fun K hk hR hin => ?_)
  have hR' := hR
  obtain ⟨r1, r2, r3, r4⟩ := hR'
  refine r_aload_n (i := 0) hk (dk_at D_Asm_init 0 rfl) rfl rfl ?_
  refine r_objInit hk mo_Asm_3 oi_1 oi_2 (dk_at D_Asm_init 1 rfl) ⟨by omega, by omega⟩ (by decide) ?_
  refine r_aload_n (i := 0) hk (dk_at D_Asm_init 2 rfl) rfl rfl ?_
  refine r_bipush hk (dk_at D_Asm_init 3 rfl) (by decide) ?_
  refine r_anew (t := 5) (n := 40) (i := (17, 0)) hk cl_Asm_9 rfl (Or.inl rfl) rfl (dk_at D_Asm_init 4 rfl) h17 rfl rfl (by omega) (by omega) (fun a17 => ?_)
  refine r_putF (fs' := [_, _, _, _, _, _, _]) hk hin fl_Asm_11 ft_Asm_0 rfl (dk_at D_Asm_init 5 rfl) ?_ (i := (16, 0)) (hw := (up_n (by intro e; cases e)).trans h16)
  refine r_aload_n (i := 0) hk (dk_at D_Asm_init 6 rfl) rfl rfl ?_
  refine r_sipush hk (dk_at D_Asm_init 7 rfl) (by decide) ?_
  refine r_newarr (t := 2) (n := 200) (i := (18, 0)) hk (dk_at D_Asm_init 8 rfl) ((up_n (by intro e; cases e)).trans ((up_n (by intro e; cases e)).trans h18)) rfl rfl rfl rfl (by omega) (by omega) (fun a18 => ?_)
  refine r_putF (fs' := [_, _, _, _, _, _, _]) hk hin fl_Asm_17 ft_Asm_2 rfl (dk_at D_Asm_init 9 rfl) ?_ (i := (16, 0)) (hw := (up_n (by intro e; cases e)).trans up_s)
  refine r_aload_n (i := 0) hk (dk_at D_Asm_init 10 rfl) rfl rfl ?_
  refine r_sipush hk (dk_at D_Asm_init 11 rfl) (by decide) ?_
  refine r_newarr (t := 2) (n := 200) (i := (19, 0)) hk (dk_at D_Asm_init 12 rfl) ((up_n (by intro e; cases e)).trans ((up_n (by intro e; cases e)).trans ((up_n (by intro e; cases e)).trans ((up_n (by intro e; cases e)).trans h19)))) rfl rfl rfl rfl (by omega) (by omega) (fun a19 => ?_)
  refine r_putF (fs' := [_, _, _, _, _, _, _]) hk hin fl_Asm_21 ft_Asm_3 rfl (dk_at D_Asm_init 13 rfl) ?_ (i := (16, 0)) (hw := (up_n (by intro e; cases e)).trans up_s)
  refine r_aload_n (i := 0) hk (dk_at D_Asm_init 14 rfl) rfl rfl ?_
  refine r_bipush hk (dk_at D_Asm_init 15 rfl) (by decide) ?_
  refine r_newarr (t := 0) (n := 20) (i := (20, 0)) hk (dk_at D_Asm_init 16 rfl) ((up_n (by intro e; cases e)).trans ((up_n (by intro e; cases e)).trans ((up_n (by intro e; cases e)).trans ((up_n (by intro e; cases e)).trans ((up_n (by intro e; cases e)).trans ((up_n (by intro e; cases e)).trans h20)))))) rfl rfl rfl rfl (by omega) (by omega) (fun a20 => ?_)
  refine r_putF (fs' := [_, _, _, _, _, _, _]) hk hin fl_Asm_24 ft_Asm_4 rfl (dk_at D_Asm_init 17 rfl) ?_ (i := (16, 0)) (hw := (up_n (by intro e; cases e)).trans up_s)
  refine r_gp (fun w2 => w2 (16, 0) = some (aO (up (up (up (up ad (17, 0) a17) (18, 0) a18) (19, 0) a19) (20, 0) a20) 0 false false) ∧ w2 (17, 0) = some (.inr (5, 40, fun _ => .null)) ∧ w2 (18, 0) = some (.inr (2, 200, bA (fun _ => false))) ∧ w2 (19, 0) = some (.inr (2, 200, bA (fun _ => false))) ∧ w2 (20, 0) = some (.inr (0, 20, fun _ => .int 0)) ∧ ∀ i : Ix, in_fam 16 20 i = false → w2 i = w i) ⟨up_s, rfl, rfl, rfl, rfl, fun i hi => ?_⟩ (fun w2 hP => ?_)
  · have e16 : i ≠ (16, 0) := fun z => by rw [z] at hi; cases hi
    have e17 : i ≠ (17, 0) := fun z => by rw [z] at hi; cases hi
    have e18 : i ≠ (18, 0) := fun z => by rw [z] at hi; cases hi
    have e19 : i ≠ (19, 0) := fun z => by rw [z] at hi; cases hi
    have e20 : i ≠ (20, 0) := fun z => by rw [z] at hi; cases hi
    rw [up_n e16, up_n e20, up_n e16, up_n e19, up_n e16, up_n e18, up_n e16, up_n e17]
  obtain ⟨p16, p17, p18, p19, p20, pw⟩ := hP
  refine r_aload_n (i := 0) hk (dk_at D_Asm_init 18 rfl) rfl rfl ?_
  refine r_callVv hk hR m_Asm_forget s_Asm_forget ml_Asm_28 (dk_at D_Asm_init 19 rfl) (c_Asm_forget G p16 p20) ?_ (i := (16, 0)) (hw := p16)
  refine r_vret hk (dk_at D_Asm_init 20 rfl) ⟨rfl, fun i hi => ?_, fun i hi => ?_, false, false, (fun _ => false), (fun _ => 0), (fun _ => 0), (fun _ => 0), (up_n (by intro e; cases e)).trans p16, ⟨_, (up_n (by intro e; cases e)).trans p17, fun k hk => by omega⟩, (up_n (by intro e; cases e)).trans p18, (up_n (by intro e; cases e)).trans p19, up_s, fun k hk => by omega⟩
  · have e17 : i ≠ (17, 0) := fun z => by rw [z] at hi; cases hi
    have e18 : i ≠ (18, 0) := fun z => by rw [z] at hi; cases hi
    have e19 : i ≠ (19, 0) := fun z => by rw [z] at hi; cases hi
    have e20 : i ≠ (20, 0) := fun z => by rw [z] at hi; cases hi
    rw [up_n e20, up_n e19, up_n e18, up_n e17]
  · rw [up_n (fun z => by rw [z] at hi; cases hi)]
    exact pw i hi
theorem in_it_Drum : Cond.initialized "DrumMachine$Drum" ∈ tw := tw_mem 2 (by decide +kernel) rfl
theorem in_it_Acc : Cond.initialized "DrumMachine$Accumulator" ∈ tw := tw_mem 3 (by decide +kernel) rfl
theorem in_it_Asm : Cond.initialized "DrumMachine$Assembler" ∈ tw := tw_mem 5 (by decide +kernel) rfl
theorem in_it_Mach : Cond.initialized "DrumMachine" ∈ tw := tw_mem 1 (by decide +kernel) rfl
theorem in_it_Mod : Cond.initialized "DrumMachineModel" ∈ tw := tw_mem 6 (by decide +kernel) rfl
theorem r_gpA {G : Gt} {K : Kt} {nL : Nat} {Q : State → Prop} {cs ss pc : Nat} {ls : List (Option Value)} {st : List Value} {ad : Ix → Nat} {w : Wt} (P : (Ix → Nat) → Wt → Prop) (h : P ad w) (kk : ∀ ad1 w1, P ad1 w1 → V G K nL Q cs ss pc ls st ad1 w1) : V G K nL Q cs ss pc ls st ad w := kk ad w h
theorem fam_n {lo hi a b : Nat} (h : (Nat.blt a lo || Nat.blt hi a) = true) : ∀ i : Ix, in_fam lo hi i = true → i ≠ (a, b) := fun i hi e => by
  subst e
  unfold in_fam at hi
  simp only [Bool.or_eq_true, Bool.and_eq_true, Nat.blt_eq] at h hi
  have h2 := Nat.le_of_ble_eq_true hi.1
  have h3 := Nat.le_of_ble_eq_true hi.2
  omega
theorem fam_o {lo hi lo' hi' : Nat} (h : (Nat.blt hi lo' || Nat.blt hi' lo) = true) {i : Ix} (hi : in_fam lo hi i = true) : in_fam lo' hi' i = false := by
  cases hb : in_fam lo' hi' i with
  | false => rfl
  | true =>
    unfold in_fam at hi hb
    simp only [Bool.or_eq_true, Bool.and_eq_true, Nat.blt_eq] at h hi hb
    have h2 := Nat.le_of_ble_eq_true hi.1
    have h3 := Nat.le_of_ble_eq_true hi.2
    have h4 := Nat.le_of_ble_eq_true hb.1
    have h5 := Nat.le_of_ble_eq_true hb.2
    omega
theorem fam_s {lo hi lo' hi' : Nat} (h : (Nat.ble lo' lo && Nat.ble hi hi') = true) {i : Ix} (hi : in_fam lo hi i = true) : in_fam lo' hi' i = true := by
  unfold in_fam at hi ⊢
  simp only [Bool.and_eq_true] at h hi ⊢
  have h1 := Nat.le_of_ble_eq_true h.1
  have h2 := Nat.le_of_ble_eq_true h.2
  have h3 := Nat.le_of_ble_eq_true hi.1
  have h4 := Nat.le_of_ble_eq_true hi.2
  exact ⟨Nat.ble_eq_true_of_le (by omega), Nat.ble_eq_true_of_le (by omega)⟩
theorem fam_f {lo hi lo' hi' : Nat} (h : (Nat.ble lo' lo && Nat.ble hi hi') = true) {i : Ix} (hx : in_fam lo' hi' i = false) : in_fam lo hi i = false := by
  cases hb : in_fam lo hi i with
  | false => rfl
  | true => rw [fam_s h hb] at hx; cases hx
theorem fam_28 {lo hi : Nat} (h : Nat.blt hi 28 = true) {i : Ix} (hx : 28 ≤ i.1) : in_fam lo hi i = false := by
  have h := Nat.blt_eq.mp h
  cases hb : in_fam lo hi i with
  | false => rfl
  | true =>
    unfold in_fam at hb
    simp only [Bool.and_eq_true] at hb
    have h5 := Nat.le_of_ble_eq_true hb.2
    omega
theorem ne28 {a b : Nat} {i : Ix} (h : Nat.blt a 28 = true) (hi : 28 ≤ i.1) : i ≠ (a, b) := fun e => by
  subst e
  have h := Nat.blt_eq.mp h
  simp only at hi
  omega
theorem nfam {lo hi a b : Nat} {i : Ix} (h : (Nat.ble lo a && Nat.ble a hi) = true) (hi : in_fam lo hi i = false) : i ≠ (a, b) := fun e => by
  subst e
  unfold in_fam at hi
  simp only at hi
  rw [h] at hi
  cases hi
def mi8 (ad : Ix → Nat) (w : Wt) (ad1 : Ix → Nat) (w1 : Wt) : Prop := (∀ i : Ix, in_fam 1 27 i = false → ad1 i = ad i) ∧ (∀ i : Ix, 28 ≤ i.1 → w1 i = w i) ∧ w1 (0, 0) = some (.inl (0, [.ref (ad1 (1, 0)), .ref (ad1 (4, 0)), .ref (ad1 (10, 0)), .ref (ad1 (12, 0)), .ref (ad1 (14, 0)), .ref (ad1 (16, 0)), .ref (ad1 (21, 0)), .int (i32 0), .int (i32 0), .ref (ad1 (24, 0)), .int (i32 0), .int (i32 0), .int (i32 0)])) ∧ wD ad1 w1 (fun _ => cdv 0) (fun _ => false) 0 ∧ wA ad1 w1 0 false false ∧ tW ad1 w1 (10, 0) (11, 0) 0 false ∧ tW ad1 w1 (12, 0) (13, 0) 0 false ∧ tW ad1 w1 (14, 0) (15, 0) 0 false ∧ wS ad1 w1 (fun _ => (0, 0, 0, 0)) 0 (fun _ => false) noP
theorem mi8.mv {ad : Ix → Nat} {w : Wt} {ad1 ad2 : Ix → Nat} {w1 w2 : Wt} (h : mi8 ad w ad1 w1) (ha : ∀ i : Ix, i.1 ≠ 22 → i.1 ≠ 23 → i.1 ≠ 25 → i.1 ≠ 26 → ad2 i = ad1 i) (hw : ∀ i : Ix, in_fam 21 26 i = false → w2 i = w1 i) : mi8 ad w ad2 w2 := by
  obtain ⟨pa, pw, p0, pD, pA, pT0, pT1, pT2, pS⟩ := h
  have ha2 : ∀ lo hi, (Nat.blt hi 21) = true → adOn lo hi ad1 ad2 := fun lo hi hh i hx => by
    have hh := Nat.blt_eq.mp hh
    simp only [Bool.and_eq_true] at hx
    have h5 := Nat.le_of_ble_eq_true hx.2
    exact ha i (by omega) (by omega) (by omega) (by omega)
  have hw2 : ∀ lo hi, (Nat.blt hi 21) = true → eqOn lo hi w1 w2 := fun lo hi hh i hx => hw i (fam_o (by rw [hh]; rfl) hx)
  have a1 : ∀ n, Nat.blt n 22 = true → ad2 (n, 0) = ad1 (n, 0) := fun n hh => by
    have hh := Nat.blt_eq.mp hh
    exact ha (n, 0) (by show n ≠ 22; omega) (by show n ≠ 23; omega) (by show n ≠ 25; omega) (by show n ≠ 26; omega)
  have a24 : ad2 (24, 0) = ad1 (24, 0) := ha (24, 0) (by decide) (by decide) (by decide) (by decide)
  refine ⟨fun i hi => (ha i (fun z => ?_) (fun z => ?_) (fun z => ?_) (fun z => ?_)).trans (pa i hi), fun i hi => (hw i (fam_28 rfl hi)).trans (pw i hi), ?_, pD.mv (hw2 _ _ rfl) (ha2 _ _ rfl), pA.mv (hw2 _ _ rfl) (ha2 _ _ rfl), pT0.mv (hw _ rfl) (hw _ rfl) (a1 11 rfl), pT1.mv (hw _ rfl) (hw _ rfl) (a1 13 rfl), pT2.mv (hw _ rfl) (hw _ rfl) (a1 15 rfl), wS0.mv pS (hw2 _ _ rfl) (ha2 _ _ rfl)⟩
  · unfold in_fam at hi; rw [z] at hi; cases hi
  · unfold in_fam at hi; rw [z] at hi; cases hi
  · unfold in_fam at hi; rw [z] at hi; cases hi
  · unfold in_fam at hi; rw [z] at hi; cases hi
  · rw [hw (0, 0) rfl, p0, a1 1 rfl, a1 4 rfl, a1 10 rfl, a1 12 rfl, a1 14 rfl, a1 16 rfl, a1 21 rfl, a24]
theorem c_Mach_init (G : Gt) {ad : Ix → Nat} {w : Wt} (h0 : w (0, 0) = some (.inl (0, [.null, .null, .null, .null, .null, .null, .null, .int (i32 0), .int (i32 0), .null, .int (i32 0), .int (i32 0), .int (i32 0)]))) (hN : ∀ i : Ix, in_fam 1 27 i = true → w i = none) : Mt G y_Mach_init w_Mach_init 3 341 3734 [.ref (ad (0, 0))] ad w (fun rv ad' w' => rv = none ∧ (∀ i : Ix, in_fam 1 27 i = false → ad' i = ad i) ∧ WW w ad' w' (fun _ => cdv 0, fun _ => false, 0, 0, false, false, 0, false, 0, 0, fun _ => (0, false), 0, fun _ => (0, false), 0, fun _ => (0, 0, 0, 0), 0, fun _ => false, noP, 0)) noT := by
  refine Mt.to [some (.ref (ad (0, 0))), none] (fun K hk hR hin => ?_)
  have hR' := hR
  obtain ⟨r1, r2, r3, r4⟩ := hR'
  have lp1 : ∀ (ad1 : Ix → Nat) (w1 : Wt), mi8 ad w ad1 w1 ∧ w1 (21, 0) = some (.inr (6, 20, fun _ => .null)) ∧ w1 (24, 0) = some (.inr (6, 40, fun _ => .null)) ∧ (∀ k, w1 (22, k) = none ∧ w1 (23, k) = none ∧ w1 (25, k) = none ∧ w1 (26, k) = none) → V G K 2 (QE G K (fun rv ad' w' => rv = none ∧ (∀ i : Ix, in_fam 1 27 i = false → ad' i = ad i) ∧ WW w ad' w' (fun _ => cdv 0, fun _ => false, 0, 0, false, false, 0, false, 0, 0, fun _ => (0, false), 0, fun _ => (0, false), 0, fun _ => (0, 0, 0, 0), 0, fun _ => false, noP, 0)) noT 341 3734) 221 3014 88 [some (.ref (ad (0, 0))), none] [] ad1 w1 := by
    intro ad1 w1 hP
    obtain ⟨h8, hC, hO, hE⟩ := hP
    have lpO : ∀ n : Nat, n ≤ 40 → ∀ (ad1 : Ix → Nat) (w1 : Wt) (y : Int) (F : Nat → Value), y = (n : Int) → mi8 ad w ad1 w1 → w1 (21, 0) = some (.inr (6, 20, fun k => .ref (ad1 (22, k)))) → (∀ k, k < 20 → tW ad1 w1 (22, k) (23, k) 0 false) → w1 (24, 0) = some (.inr (6, 40, F)) → (∀ k, k < n → F k = .ref (ad1 (25, k))) → (∀ k, k < n → tW ad1 w1 (25, k) (26, k) 0 false) → (∀ k, n ≤ k → w1 (25, k) = none ∧ w1 (26, k) = none) → V G K 2 (QE G K (fun rv ad' w' => rv = none ∧ (∀ i : Ix, in_fam 1 27 i = false → ad' i = ad i) ∧ WW w ad' w' (fun _ => cdv 0, fun _ => false, 0, 0, false, false, 0, false, 0, 0, fun _ => (0, false), 0, fun _ => (0, false), 0, fun _ => (0, 0, 0, 0), 0, fun _ => false, noP, 0)) noT 341 3734) (261 + 2 * n) (3254 + 12 * n) 117 [some (.ref (ad (0, 0))), some (.int (i32 y))] [] ad1 w1 := by
      refine nup 40 (fun n hn ih ad1 w1 y F hy h8 hC hCt hO hF hOt hE => ?_)
      subst hy
      have p0 := h8.2.2.1
      have p00 := h8.1 (0, 0) rfl
      refine r_iload_n (i := 1) hk (dk_at D_Mach_init 56 rfl) rfl rfl ?_
      refine r_bipush hk (dk_at D_Mach_init 57 rfl) (by decide) ?_
      refine r_icmp_ge (t := 142) hk (dk_at D_Mach_init 58 rfl) (by decide) (by omega) (by omega) (fun c_120 => ?_) (fun c_120 => ?_)
      · obtain rfl : n = 40 := by omega
        refine r_in hO ?_
        refine r_arr (g := fun k => .ref (ad1 (25, k))) hF ?_
        have w24 : ∀ i : Ix, i ≠ (24, 0) → up w1 (24, 0) (some (.inr (6, 40, fun k => .ref (ad1 (25, k))))) i = w1 i := fun i hi => up_n hi
        have m8 := h8.mv (ad2 := ad1) (w2 := up w1 (24, 0) (some (.inr (6, 40, fun k => .ref (ad1 (25, k)))))) (fun _ _ _ _ _ => rfl) (fun i hi => up_n (nfam rfl hi))
        obtain ⟨pa, pw, p0, pD, pA, pT0, pT1, pT2, pS⟩ := m8
        exact r_vret hk (dk_at D_Mach_init 68 rfl) ⟨rfl, pa, pw, pD, pA, ⟨pT0, pT1.s, pT2.s⟩, ⟨up_s, fun k hk => ((hOt k hk).fr (up_n (by intro e; cases e)) (up_n (by intro e; cases e))).s, fun k hk => by omega⟩, pS, p0, ⟨(up_n (by intro e; cases e)).trans hC, fun k hk => ((hCt k hk).fr (up_n (by intro e; cases e)) (up_n (by intro e; cases e))).s, fun k hk => by omega⟩⟩
      · refine r_aload_n (i := 0) hk (dk_at D_Mach_init 59 rfl) rfl rfl ?_
        refine r_get hk fl_Mach_97 (dk_at D_Mach_init 60 rfl) ?_ (i := (0, 0)) (ha := p00) (hw := p0)
        refine r_iload_n (i := 1) hk (dk_at D_Mach_init 61 rfl) rfl rfl ?_
        refine r_new (i := (25, n)) (ci := 3) (fs := [.null, .int (i32 0)]) hk cl_Mach_73 in_Word in_it_Word rfl (dk_at D_Mach_init 62 rfl) (hE n (Nat.le_refl _)).1 (by intro r hr k hk9; cases hr; revert k; decide +kernel) (by omega) (by omega) (fun a => ?_)
        refine r_dup hk (dk_at D_Mach_init 63 rfl) rfl ?_
        refine r_callIp hk hR m_Word_init s_Word_init ml_Mach_75 (dk_at D_Mach_init 64 rfl) (c_Word_init G (i := (25, n)) (j := (26, n)) up_s up_s ((up_n (by intro e; cases e)).trans (hE n (Nat.le_refl _)).2)) (fun v ad2 w2 hp => ?_) VT_no (hce := Nat.ble_eq_true_of_le (by omega)) (hsl := Nat.ble_eq_true_of_le (by omega))
        obtain ⟨rfl, b, rfl, rfl⟩ := hp
        refine r_st (st' := [.ref a, .int (i32 (n : Nat)), .ref (ad1 (24, 0))]) rfl ?_
        refine r_aastore (ix := n) hk (dk_at D_Mach_init 65 rfl) ?_ (i := (24, 0)) (t := 6) (k := (25, n)) (ci := 3) (ha := (up_n (by intro e; cases e)).trans (up_n (by intro e; cases e))) (hw := (up_n (by intro e; cases e)).trans ((up_n (by intro e; cases e)).trans ((up_n (by intro e; cases e)).trans hO))) (hb := (up_n (by intro e; cases e)).trans up_s) (hv := up_s)
        refine r_iinc (i := 1) (ls' := [_, _]) hk (dk_at D_Mach_init 66 rfl) rfl rfl rfl rfl ?_
        refine r_goto (t := 117) hk (dk_at D_Mach_init 67 rfl) (by decide) ?_
        have mv8 := h8.mv (ad2 := up (up ad1 (25, n) a) (26, n) b) (w2 := up (up (up (up w1 (25, n) (some (.inl (3, [.null, .int (i32 0)])))) (26, n) (some (da 0))) (25, n) (some (wo (up (up ad1 (25, n) a) (26, n) b) (26, n) false))) (24, 0) (some (.inr (6, 40, updV F n (.ref a))))) (fun i i1 i2 i3 i4 => (up_n (fun z => by rw [z] at i1 i2 i3 i4; first | exact i1 rfl | exact i2 rfl | exact i3 rfl | exact i4 rfl)).trans (up_n (fun z => by rw [z] at i1 i2 i3 i4; first | exact i1 rfl | exact i2 rfl | exact i3 rfl | exact i4 rfl))) (fun i hi => (up_n (nfam rfl hi)).trans ((up_n (nfam rfl hi)).trans ((up_n (nfam rfl hi)).trans (up_n (nfam rfl hi)))))
        have wn : ∀ (x k : Nat), k ≠ n → (x = 25 ∨ x = 26) → up (up (up (up w1 (25, n) (some (.inl (3, [.null, .int (i32 0)])))) (26, n) (some (da 0))) (25, n) (some (wo (up (up ad1 (25, n) a) (26, n) b) (26, n) false))) (24, 0) (some (.inr (6, 40, updV F n (.ref a)))) (x, k) = w1 (x, k) := fun x k e hx => (up_n (fun z => by have := congrArg Prod.fst z; simp only at this; omega)).trans ((up_n (fun z => e (congrArg Prod.snd z))).trans ((up_n (fun z => e (congrArg Prod.snd z))).trans (up_n (fun z => e (congrArg Prod.snd z)))))
        have an : ∀ (x k : Nat), k ≠ n → up (up ad1 (25, n) a) (26, n) b (x, k) = ad1 (x, k) := fun x k e => (up_n (fun z => e (congrArg Prod.snd z))).trans (up_n (fun z => e (congrArg Prod.snd z)))
        have hF2 : ∀ k, k < n + 1 → updV F n (.ref a) k = .ref (up (up ad1 (25, n) a) (26, n) b (25, k)) := fun k hk => by
          by_cases e : k = n
          · rw [e, updV_s, up_n (by intro e; cases e), up_s]
          · rw [updV_n e, an _ _ e]; exact hF k (by omega)
        have hT2 : ∀ k, k < n + 1 → tW (up (up ad1 (25, n) a) (26, n) b) (up (up (up (up w1 (25, n) (some (.inl (3, [.null, .int (i32 0)])))) (26, n) (some (da 0))) (25, n) (some (wo (up (up ad1 (25, n) a) (26, n) b) (26, n) false))) (24, 0) (some (.inr (6, 40, updV F n (.ref a))))) (25, k) (26, k) 0 false := fun k hk => by
          by_cases e : k = n
          · rw [e]; exact ⟨(up_n (by intro e; cases e)).trans up_s, (up_n (by intro e; cases e)).trans ((up_n (by intro e; cases e)).trans up_s)⟩
          · exact (hOt k (by omega)).mv (wn _ k e (Or.inl rfl)) (wn _ k e (Or.inr rfl)) (an _ _ e)
        have hE2 : ∀ k, n + 1 ≤ k → _ ∧ _ := fun k hk => ⟨(wn 25 k (by omega) (Or.inl rfl)).trans (hE k (by omega)).1, (wn 26 k (by omega) (Or.inr rfl)).trans (hE k (by omega)).2⟩
        refine r_widen (k := 261 + 2 * (n + 1)) (n := 3254 + 12 * (n + 1)) (by omega) (by omega) ?_
        refine ih (by omega) _ _ _ _ (by omega) mv8 ?_ (fun k hk => (hCt k hk).mv ((up_n (by intro e; cases e)).trans ((up_n (by intro e; cases e)).trans ((up_n (by intro e; cases e)).trans (up_n (by intro e; cases e))))) ((up_n (by intro e; cases e)).trans ((up_n (by intro e; cases e)).trans ((up_n (by intro e; cases e)).trans (up_n (by intro e; cases e))))) ((up_n (by intro e; cases e)).trans (up_n (by intro e; cases e)))) up_s hF2 hT2 hE2
        exact ((up_n (by intro e; cases e)).trans ((up_n (by intro e; cases e)).trans ((up_n (by intro e; cases e)).trans (up_n (by intro e; cases e))))).trans hC
    have lpC : ∀ n : Nat, n ≤ 20 → ∀ (ad1 : Ix → Nat) (w1 : Wt) (y : Int) (F : Nat → Value), y = (n : Int) → mi8 ad w ad1 w1 → w1 (21, 0) = some (.inr (6, 20, F)) → (∀ k, k < n → F k = .ref (ad1 (22, k))) → (∀ k, k < n → tW ad1 w1 (22, k) (23, k) 0 false) → (∀ k, n ≤ k → w1 (22, k) = none ∧ w1 (23, k) = none) → w1 (24, 0) = some (.inr (6, 40, fun _ => .null)) → (∀ k, w1 (25, k) = none ∧ w1 (26, k) = none) → V G K 2 (QE G K (fun rv ad' w' => rv = none ∧ (∀ i : Ix, in_fam 1 27 i = false → ad' i = ad i) ∧ WW w ad' w' (fun _ => cdv 0, fun _ => false, 0, 0, false, false, 0, false, 0, 0, fun _ => (0, false), 0, fun _ => (0, false), 0, fun _ => (0, 0, 0, 0), 0, fun _ => false, noP, 0)) noT 341 3734) (221 + 2 * n) (3014 + 12 * n) 90 [some (.ref (ad (0, 0))), some (.int (i32 y))] [] ad1 w1 := by
      refine nup 20 (fun n hn ih ad1 w1 y F hy h8 hC hF hCt hE hO hOe => ?_)
      subst hy
      have p0 := h8.2.2.1
      have p00 := h8.1 (0, 0) rfl
      refine r_iload_n (i := 1) hk (dk_at D_Mach_init 42 rfl) rfl rfl ?_
      refine r_bipush hk (dk_at D_Mach_init 43 rfl) (by decide) ?_
      refine r_icmp_ge (t := 115) hk (dk_at D_Mach_init 44 rfl) (by decide) (by omega) (by omega) (fun c_93 => ?_) (fun c_93 => ?_)
      · obtain rfl : n = 20 := by omega
        refine r_in hC ?_
        refine r_arr (g := fun k => .ref (ad1 (22, k))) hF ?_
        have m8 := h8.mv (ad2 := ad1) (w2 := up w1 (21, 0) (some (.inr (6, 20, fun k => .ref (ad1 (22, k)))))) (fun _ _ _ _ _ => rfl) (fun i hi => up_n (nfam rfl hi))
        refine r_iconst hk (dk_at D_Mach_init 54 rfl) ?_
        refine r_istore_n (i := 1) (ls' := [_, _]) hk (dk_at D_Mach_init 55 rfl) rfl rfl rfl rfl ?_
        exact lpO 0 (Nat.zero_le _) ad1 _ _ _ rfl m8 up_s (fun k hk => (hCt k hk).fr (up_n (by intro e; cases e)) (up_n (by intro e; cases e))) ((up_n (by intro e; cases e)).trans hO) (fun k hk => by omega) (fun k hk => by omega) (fun k _ => ⟨(up_n (by intro e; cases e)).trans (hOe k).1, (up_n (by intro e; cases e)).trans (hOe k).2⟩)
      · refine r_aload_n (i := 0) hk (dk_at D_Mach_init 45 rfl) rfl rfl ?_
        refine r_get hk fl_Mach_93 (dk_at D_Mach_init 46 rfl) ?_ (i := (0, 0)) (ha := p00) (hw := p0)
        refine r_iload_n (i := 1) hk (dk_at D_Mach_init 47 rfl) rfl rfl ?_
        refine r_new (i := (22, n)) (ci := 3) (fs := [.null, .int (i32 0)]) hk cl_Mach_73 in_Word in_it_Word rfl (dk_at D_Mach_init 48 rfl) (hE n (Nat.le_refl _)).1 (by intro r hr k hk9; cases hr; revert k; decide +kernel) (by omega) (by omega) (fun a => ?_)
        refine r_dup hk (dk_at D_Mach_init 49 rfl) rfl ?_
        refine r_callIp hk hR m_Word_init s_Word_init ml_Mach_75 (dk_at D_Mach_init 50 rfl) (c_Word_init G (i := (22, n)) (j := (23, n)) up_s up_s ((up_n (by intro e; cases e)).trans (hE n (Nat.le_refl _)).2)) (fun v ad2 w2 hp => ?_) VT_no (hce := Nat.ble_eq_true_of_le (by omega)) (hsl := Nat.ble_eq_true_of_le (by omega))
        obtain ⟨rfl, b, rfl, rfl⟩ := hp
        refine r_st (st' := [.ref a, .int (i32 (n : Nat)), .ref (ad1 (21, 0))]) rfl ?_
        refine r_aastore (ix := n) hk (dk_at D_Mach_init 51 rfl) ?_ (i := (21, 0)) (t := 6) (k := (22, n)) (ci := 3) (ha := (up_n (by intro e; cases e)).trans (up_n (by intro e; cases e))) (hw := (up_n (by intro e; cases e)).trans ((up_n (by intro e; cases e)).trans ((up_n (by intro e; cases e)).trans hC))) (hb := (up_n (by intro e; cases e)).trans up_s) (hv := up_s)
        refine r_iinc (i := 1) (ls' := [_, _]) hk (dk_at D_Mach_init 52 rfl) rfl rfl rfl rfl ?_
        refine r_goto (t := 90) hk (dk_at D_Mach_init 53 rfl) (by decide) ?_
        have mv8 := h8.mv (ad2 := up (up ad1 (22, n) a) (23, n) b) (w2 := up (up (up (up w1 (22, n) (some (.inl (3, [.null, .int (i32 0)])))) (23, n) (some (da 0))) (22, n) (some (wo (up (up ad1 (22, n) a) (23, n) b) (23, n) false))) (21, 0) (some (.inr (6, 20, updV F n (.ref a))))) (fun i i1 i2 i3 i4 => (up_n (fun z => by rw [z] at i1 i2 i3 i4; first | exact i1 rfl | exact i2 rfl | exact i3 rfl | exact i4 rfl)).trans (up_n (fun z => by rw [z] at i1 i2 i3 i4; first | exact i1 rfl | exact i2 rfl | exact i3 rfl | exact i4 rfl))) (fun i hi => (up_n (nfam rfl hi)).trans ((up_n (nfam rfl hi)).trans ((up_n (nfam rfl hi)).trans (up_n (nfam rfl hi)))))
        have wn : ∀ (x k : Nat), k ≠ n → (x = 22 ∨ x = 23) → up (up (up (up w1 (22, n) (some (.inl (3, [.null, .int (i32 0)])))) (23, n) (some (da 0))) (22, n) (some (wo (up (up ad1 (22, n) a) (23, n) b) (23, n) false))) (21, 0) (some (.inr (6, 20, updV F n (.ref a)))) (x, k) = w1 (x, k) := fun x k e hx => (up_n (fun z => by have := congrArg Prod.fst z; simp only at this; omega)).trans ((up_n (fun z => e (congrArg Prod.snd z))).trans ((up_n (fun z => e (congrArg Prod.snd z))).trans (up_n (fun z => e (congrArg Prod.snd z)))))
        have an : ∀ (x k : Nat), k ≠ n → up (up ad1 (22, n) a) (23, n) b (x, k) = ad1 (x, k) := fun x k e => (up_n (fun z => e (congrArg Prod.snd z))).trans (up_n (fun z => e (congrArg Prod.snd z)))
        have hF2 : ∀ k, k < n + 1 → updV F n (.ref a) k = .ref (up (up ad1 (22, n) a) (23, n) b (22, k)) := fun k hk => by
          by_cases e : k = n
          · rw [e, updV_s, up_n (by intro e; cases e), up_s]
          · rw [updV_n e, an _ _ e]; exact hF k (by omega)
        have hT2 : ∀ k, k < n + 1 → tW (up (up ad1 (22, n) a) (23, n) b) (up (up (up (up w1 (22, n) (some (.inl (3, [.null, .int (i32 0)])))) (23, n) (some (da 0))) (22, n) (some (wo (up (up ad1 (22, n) a) (23, n) b) (23, n) false))) (21, 0) (some (.inr (6, 20, updV F n (.ref a))))) (22, k) (23, k) 0 false := fun k hk => by
          by_cases e : k = n
          · rw [e]; exact ⟨(up_n (by intro e; cases e)).trans up_s, (up_n (by intro e; cases e)).trans ((up_n (by intro e; cases e)).trans up_s)⟩
          · exact (hCt k (by omega)).mv (wn _ k e (Or.inl rfl)) (wn _ k e (Or.inr rfl)) (an _ _ e)
        have hE2 : ∀ k, n + 1 ≤ k → _ ∧ _ := fun k hk => ⟨(wn 22 k (by omega) (Or.inl rfl)).trans (hE k (by omega)).1, (wn 23 k (by omega) (Or.inr rfl)).trans (hE k (by omega)).2⟩
        refine r_widen (k := 221 + 2 * (n + 1)) (n := 3014 + 12 * (n + 1)) (by omega) (by omega) ?_
        refine ih (by omega) _ _ _ _ (by omega) mv8 up_s hF2 hT2 hE2 (((up_n (by intro e; cases e)).trans ((up_n (by intro e; cases e)).trans ((up_n (by intro e; cases e)).trans (up_n (by intro e; cases e))))).trans hO) (fun k => ⟨((up_n (by intro e; cases e)).trans ((up_n (by intro e; cases e)).trans ((up_n (by intro e; cases e)).trans (up_n (by intro e; cases e))))).trans (hOe k).1, ((up_n (by intro e; cases e)).trans ((up_n (by intro e; cases e)).trans ((up_n (by intro e; cases e)).trans (up_n (by intro e; cases e))))).trans (hOe k).2⟩)
    refine r_iconst hk (dk_at D_Mach_init 40 rfl) ?_
    refine r_istore_n (i := 1) (ls' := [_, _]) hk (dk_at D_Mach_init 41 rfl) rfl rfl rfl rfl ?_
    exact lpC 0 (Nat.zero_le _) ad1 w1 _ _ rfl h8 hC (fun k hk => by omega) (fun k hk => by omega) (fun k _ => ⟨(hE k).1, (hE k).2.1⟩) hO (fun k => ⟨(hE k).2.2.1, (hE k).2.2.2⟩)
  refine r_aload_n (i := 0) hk (dk_at D_Mach_init 0 rfl) rfl rfl ?_
  refine r_objInit hk mo_Mach_53 oi_1 oi_2 (dk_at D_Mach_init 1 rfl) ⟨by omega, by omega⟩ (by decide) ?_
  refine r_aload_n (i := 0) hk (dk_at D_Mach_init 2 rfl) rfl rfl ?_
  have pN := hN
  refine r_new (i := (1, 0)) (ci := 1) (fs := [.null, .long (i64 0)]) hk cl_Mach_59 in_Drum in_it_Drum rfl (dk_at D_Mach_init 3 rfl) (pN (1, 0) rfl) (by intro r hr k hk9; cases hr; revert k; decide +kernel) (by omega) (by omega) (fun a => ?_)
  refine r_dup hk (dk_at D_Mach_init 4 rfl) rfl ?_
  refine r_callIp hk hR m_Drum_init s_Drum_init ml_Mach_61 (dk_at D_Mach_init 5 rfl) (c_Drum_init G up_s ((up_n (by intro e; cases e)).trans (hN (2, 0) rfl)) (fun k => (up_n (by intro e; cases e)).trans (hN (3, k) rfl))) (fun v ad2 w2 hp => ?_) VT_no
  obtain ⟨rfl, qa, qw, qo⟩ := hp
  refine r_putF (fs' := [_, _, _, _, _, _, _, _, _, _, _, _, _]) hk hin fl_Mach_62 ft_Mach_0 rfl (dk_at D_Mach_init 6 rfl) ?_ (i := (0, 0)) (ha := (qa (0, 0) rfl).trans rfl) (hw := (qw (0, 0) rfl).trans ((up_n (by intro e; cases e)).trans h0))
  refine r_gpA (fun ad1 w1 => (∀ i : Ix, in_fam 1 27 i = false → ad1 i = ad i) ∧ (∀ i : Ix, 28 ≤ i.1 → w1 i = w i) ∧ w1 (0, 0) = some (.inl (0, [.ref (ad1 (1, 0)), .null, .null, .null, .null, .null, .null, .int (i32 0), .int (i32 0), .null, .int (i32 0), .int (i32 0), .int (i32 0)])) ∧ wD ad1 w1 (fun _ => cdv 0) (fun _ => false) 0 ∧ (∀ i : Ix, in_fam 4 27 i = true → w1 i = none)) ⟨fun i hi => (qa i (fam_f rfl hi)).trans (up_n (nfam rfl hi)), fun i hi => (up_n (ne28 rfl hi)).trans ((qw i (fam_28 rfl hi)).trans (up_n (ne28 rfl hi))), (up_s.trans (by rw [show ad2 (1, 0) = a from (qa (1, 0) rfl).trans up_s])), qo.mv (eqOn.up rfl) (fun _ _ => rfl), fun i hi => (up_n (fam_n rfl i hi)).trans ((qw i (fam_o rfl hi)).trans ((up_n (fam_n rfl i hi)).trans (hN i (fam_s rfl hi))))⟩ (fun ad1 w1 hP => ?_)
  obtain ⟨pa, pw, p0, pD, pN⟩ := hP
  have p00 := pa (0, 0) rfl
  refine r_aload_n (i := 0) hk (dk_at D_Mach_init 7 rfl) rfl rfl ?_
  refine r_new (i := (4, 0)) (ci := 2) (fs := [.null, .int (i32 0), .int (i32 0), .null, .null]) hk cl_Mach_66 in_Acc in_it_Acc rfl (dk_at D_Mach_init 8 rfl) (pN (4, 0) rfl) (by intro r hr k hk9; cases hr; revert k; decide +kernel) (by omega) (by omega) (fun a => ?_)
  refine r_dup hk (dk_at D_Mach_init 9 rfl) rfl ?_
  refine r_callIp hk hR m_Acc_init s_Acc_init ml_Mach_68 (dk_at D_Mach_init 10 rfl) (c_Acc_init G up_s ((up_n (by intro e; cases e)).trans (pN (5, 0) rfl)) ((up_n (by intro e; cases e)).trans (pN (6, 0) rfl)) ((up_n (by intro e; cases e)).trans (pN (7, 0) rfl)) ((up_n (by intro e; cases e)).trans (pN (8, 0) rfl)) ((up_n (by intro e; cases e)).trans (pN (9, 0) rfl))) (fun v ad2 w2 hp => ?_) VT_no
  obtain ⟨rfl, qa, qw, qo⟩ := hp
  refine r_putF (fs' := [_, _, _, _, _, _, _, _, _, _, _, _, _]) hk hin fl_Mach_69 ft_Mach_1 rfl (dk_at D_Mach_init 11 rfl) ?_ (i := (0, 0)) (ha := (qa (0, 0) rfl).trans ((up_n (by intro e; cases e)).trans p00)) (hw := (qw (0, 0) rfl).trans ((up_n (by intro e; cases e)).trans p0))
  refine r_gpA (fun ad1 w1 => (∀ i : Ix, in_fam 1 27 i = false → ad1 i = ad i) ∧ (∀ i : Ix, 28 ≤ i.1 → w1 i = w i) ∧ w1 (0, 0) = some (.inl (0, [.ref (ad1 (1, 0)), .ref (ad1 (4, 0)), .null, .null, .null, .null, .null, .int (i32 0), .int (i32 0), .null, .int (i32 0), .int (i32 0), .int (i32 0)])) ∧ wD ad1 w1 (fun _ => cdv 0) (fun _ => false) 0 ∧ wA ad1 w1 0 false false ∧ (∀ i : Ix, in_fam 10 27 i = true → w1 i = none)) ⟨fun i hi => (qa i (fam_f rfl hi)).trans ((up_n (nfam rfl hi)).trans (pa i hi)), fun i hi => (up_n (ne28 rfl hi)).trans ((qw i (fam_28 rfl hi)).trans ((up_n (ne28 rfl hi)).trans (pw i hi))), (up_s.trans (by rw [show ad2 (4, 0) = a from (qa (4, 0) rfl).trans up_s, show ad2 (1, 0) = ad1 (1, 0) from (qa (1, 0) rfl).trans (up_n (by intro e; cases e))])), pD.mv (fun i hi => (eqOn.up rfl i hi).trans ((qw i (fam_o rfl hi)).trans (eqOn.up rfl i hi))) (fun i hi => (qa i (fam_o rfl hi)).trans (up_n (fam_n rfl i hi))), qo.mv (eqOn.up rfl) (fun _ _ => rfl), fun i hi => (up_n (fam_n rfl i hi)).trans ((qw i (fam_o rfl hi)).trans ((up_n (fam_n rfl i hi)).trans (pN i (fam_s rfl hi))))⟩ (fun ad1 w1 hP => ?_)
  obtain ⟨pa, pw, p0, pD, pA, pN⟩ := hP
  have p00 := pa (0, 0) rfl
  refine r_aload_n (i := 0) hk (dk_at D_Mach_init 12 rfl) rfl rfl ?_
  refine r_new (i := (10, 0)) (ci := 3) (fs := [.null, .int (i32 0)]) hk cl_Mach_73 in_Word in_it_Word rfl (dk_at D_Mach_init 13 rfl) (pN (10, 0) rfl) (by intro r hr k hk9; cases hr; revert k; decide +kernel) (by omega) (by omega) (fun a => ?_)
  refine r_dup hk (dk_at D_Mach_init 14 rfl) rfl ?_
  refine r_callIp hk hR m_Word_init s_Word_init ml_Mach_75 (dk_at D_Mach_init 15 rfl) (c_Word_init G (i := (10, 0)) (j := (11, 0)) up_s up_s ((up_n (by intro e; cases e)).trans (pN (11, 0) rfl))) (fun v ad2 w2 hp => ?_) VT_no
  obtain ⟨rfl, b, rfl, rfl⟩ := hp
  refine r_putF (fs' := [_, _, _, _, _, _, _, _, _, _, _, _, _]) hk hin fl_Mach_76 ft_Mach_2 rfl (dk_at D_Mach_init 16 rfl) ?_ (i := (0, 0)) (ha := (up_n (by intro e; cases e)).trans ((up_n (by intro e; cases e)).trans p00)) (hw := (up_n (by intro e; cases e)).trans ((up_n (by intro e; cases e)).trans ((up_n (by intro e; cases e)).trans p0)))
  refine r_gpA (fun ad1 w1 => (∀ i : Ix, in_fam 1 27 i = false → ad1 i = ad i) ∧ (∀ i : Ix, 28 ≤ i.1 → w1 i = w i) ∧ w1 (0, 0) = some (.inl (0, [.ref (ad1 (1, 0)), .ref (ad1 (4, 0)), .ref (ad1 (10, 0)), .null, .null, .null, .null, .int (i32 0), .int (i32 0), .null, .int (i32 0), .int (i32 0), .int (i32 0)])) ∧ wD ad1 w1 (fun _ => cdv 0) (fun _ => false) 0 ∧ wA ad1 w1 0 false false ∧ tW ad1 w1 (10, 0) (11, 0) 0 false ∧ (∀ i : Ix, in_fam 12 27 i = true → w1 i = none)) ⟨fun i hi => (up_n (nfam rfl hi)).trans ((up_n (nfam rfl hi)).trans (pa i hi)), fun i hi => (up_n (ne28 rfl hi)).trans ((up_n (ne28 rfl hi)).trans ((up_n (ne28 rfl hi)).trans ((up_n (ne28 rfl hi)).trans (pw i hi)))), up_s, pD.mv (fun i hi => (eqOn.up rfl i hi).trans ((eqOn.up rfl i hi).trans ((eqOn.up rfl i hi).trans (eqOn.up rfl i hi)))) (fun i hi => (up_n (fam_n rfl i hi)).trans (up_n (fam_n rfl i hi))), pA.mv (fun i hi => (eqOn.up rfl i hi).trans ((eqOn.up rfl i hi).trans ((eqOn.up rfl i hi).trans (eqOn.up rfl i hi)))) (fun i hi => (up_n (fam_n rfl i hi)).trans (up_n (fam_n rfl i hi))), ⟨(up_n (by intro e; cases e)).trans up_s, (up_n (by intro e; cases e)).trans ((up_n (by intro e; cases e)).trans up_s)⟩, fun i hi => (up_n (fam_n rfl i hi)).trans ((up_n (fam_n rfl i hi)).trans ((up_n (fam_n rfl i hi)).trans ((up_n (fam_n rfl i hi)).trans (pN i (fam_s rfl hi)))))⟩ (fun ad1 w1 hP => ?_)
  obtain ⟨pa, pw, p0, pD, pA, pT0, pN⟩ := hP
  have p00 := pa (0, 0) rfl
  refine r_aload_n (i := 0) hk (dk_at D_Mach_init 17 rfl) rfl rfl ?_
  refine r_new (i := (12, 0)) (ci := 3) (fs := [.null, .int (i32 0)]) hk cl_Mach_73 in_Word in_it_Word rfl (dk_at D_Mach_init 18 rfl) (pN (12, 0) rfl) (by intro r hr k hk9; cases hr; revert k; decide +kernel) (by omega) (by omega) (fun a => ?_)
  refine r_dup hk (dk_at D_Mach_init 19 rfl) rfl ?_
  refine r_callIp hk hR m_Word_init s_Word_init ml_Mach_75 (dk_at D_Mach_init 20 rfl) (c_Word_init G (i := (12, 0)) (j := (13, 0)) up_s up_s ((up_n (by intro e; cases e)).trans (pN (13, 0) rfl))) (fun v ad2 w2 hp => ?_) VT_no
  obtain ⟨rfl, b, rfl, rfl⟩ := hp
  refine r_putF (fs' := [_, _, _, _, _, _, _, _, _, _, _, _, _]) hk hin fl_Mach_80 ft_Mach_3 rfl (dk_at D_Mach_init 21 rfl) ?_ (i := (0, 0)) (ha := (up_n (by intro e; cases e)).trans ((up_n (by intro e; cases e)).trans p00)) (hw := (up_n (by intro e; cases e)).trans ((up_n (by intro e; cases e)).trans ((up_n (by intro e; cases e)).trans p0)))
  refine r_gpA (fun ad1 w1 => (∀ i : Ix, in_fam 1 27 i = false → ad1 i = ad i) ∧ (∀ i : Ix, 28 ≤ i.1 → w1 i = w i) ∧ w1 (0, 0) = some (.inl (0, [.ref (ad1 (1, 0)), .ref (ad1 (4, 0)), .ref (ad1 (10, 0)), .ref (ad1 (12, 0)), .null, .null, .null, .int (i32 0), .int (i32 0), .null, .int (i32 0), .int (i32 0), .int (i32 0)])) ∧ wD ad1 w1 (fun _ => cdv 0) (fun _ => false) 0 ∧ wA ad1 w1 0 false false ∧ tW ad1 w1 (10, 0) (11, 0) 0 false ∧ tW ad1 w1 (12, 0) (13, 0) 0 false ∧ (∀ i : Ix, in_fam 14 27 i = true → w1 i = none)) ⟨fun i hi => (up_n (nfam rfl hi)).trans ((up_n (nfam rfl hi)).trans (pa i hi)), fun i hi => (up_n (ne28 rfl hi)).trans ((up_n (ne28 rfl hi)).trans ((up_n (ne28 rfl hi)).trans ((up_n (ne28 rfl hi)).trans (pw i hi)))), up_s, pD.mv (fun i hi => (eqOn.up rfl i hi).trans ((eqOn.up rfl i hi).trans ((eqOn.up rfl i hi).trans (eqOn.up rfl i hi)))) (fun i hi => (up_n (fam_n rfl i hi)).trans (up_n (fam_n rfl i hi))), pA.mv (fun i hi => (eqOn.up rfl i hi).trans ((eqOn.up rfl i hi).trans ((eqOn.up rfl i hi).trans (eqOn.up rfl i hi)))) (fun i hi => (up_n (fam_n rfl i hi)).trans (up_n (fam_n rfl i hi))), pT0.mv ((up_n (by intro e; cases e)).trans ((up_n (by intro e; cases e)).trans ((up_n (by intro e; cases e)).trans (up_n (by intro e; cases e))))) ((up_n (by intro e; cases e)).trans ((up_n (by intro e; cases e)).trans ((up_n (by intro e; cases e)).trans (up_n (by intro e; cases e))))) ((up_n (by intro e; cases e)).trans (up_n (by intro e; cases e))), ⟨(up_n (by intro e; cases e)).trans up_s, (up_n (by intro e; cases e)).trans ((up_n (by intro e; cases e)).trans up_s)⟩, fun i hi => (up_n (fam_n rfl i hi)).trans ((up_n (fam_n rfl i hi)).trans ((up_n (fam_n rfl i hi)).trans ((up_n (fam_n rfl i hi)).trans (pN i (fam_s rfl hi)))))⟩ (fun ad1 w1 hP => ?_)
  obtain ⟨pa, pw, p0, pD, pA, pT0, pT1, pN⟩ := hP
  have p00 := pa (0, 0) rfl
  refine r_aload_n (i := 0) hk (dk_at D_Mach_init 22 rfl) rfl rfl ?_
  refine r_new (i := (14, 0)) (ci := 3) (fs := [.null, .int (i32 0)]) hk cl_Mach_73 in_Word in_it_Word rfl (dk_at D_Mach_init 23 rfl) (pN (14, 0) rfl) (by intro r hr k hk9; cases hr; revert k; decide +kernel) (by omega) (by omega) (fun a => ?_)
  refine r_dup hk (dk_at D_Mach_init 24 rfl) rfl ?_
  refine r_callIp hk hR m_Word_init s_Word_init ml_Mach_75 (dk_at D_Mach_init 25 rfl) (c_Word_init G (i := (14, 0)) (j := (15, 0)) up_s up_s ((up_n (by intro e; cases e)).trans (pN (15, 0) rfl))) (fun v ad2 w2 hp => ?_) VT_no
  obtain ⟨rfl, b, rfl, rfl⟩ := hp
  refine r_putF (fs' := [_, _, _, _, _, _, _, _, _, _, _, _, _]) hk hin fl_Mach_83 ft_Mach_4 rfl (dk_at D_Mach_init 26 rfl) ?_ (i := (0, 0)) (ha := (up_n (by intro e; cases e)).trans ((up_n (by intro e; cases e)).trans p00)) (hw := (up_n (by intro e; cases e)).trans ((up_n (by intro e; cases e)).trans ((up_n (by intro e; cases e)).trans p0)))
  refine r_gpA (fun ad1 w1 => (∀ i : Ix, in_fam 1 27 i = false → ad1 i = ad i) ∧ (∀ i : Ix, 28 ≤ i.1 → w1 i = w i) ∧ w1 (0, 0) = some (.inl (0, [.ref (ad1 (1, 0)), .ref (ad1 (4, 0)), .ref (ad1 (10, 0)), .ref (ad1 (12, 0)), .ref (ad1 (14, 0)), .null, .null, .int (i32 0), .int (i32 0), .null, .int (i32 0), .int (i32 0), .int (i32 0)])) ∧ wD ad1 w1 (fun _ => cdv 0) (fun _ => false) 0 ∧ wA ad1 w1 0 false false ∧ tW ad1 w1 (10, 0) (11, 0) 0 false ∧ tW ad1 w1 (12, 0) (13, 0) 0 false ∧ tW ad1 w1 (14, 0) (15, 0) 0 false ∧ (∀ i : Ix, in_fam 16 27 i = true → w1 i = none)) ⟨fun i hi => (up_n (nfam rfl hi)).trans ((up_n (nfam rfl hi)).trans (pa i hi)), fun i hi => (up_n (ne28 rfl hi)).trans ((up_n (ne28 rfl hi)).trans ((up_n (ne28 rfl hi)).trans ((up_n (ne28 rfl hi)).trans (pw i hi)))), up_s, pD.mv (fun i hi => (eqOn.up rfl i hi).trans ((eqOn.up rfl i hi).trans ((eqOn.up rfl i hi).trans (eqOn.up rfl i hi)))) (fun i hi => (up_n (fam_n rfl i hi)).trans (up_n (fam_n rfl i hi))), pA.mv (fun i hi => (eqOn.up rfl i hi).trans ((eqOn.up rfl i hi).trans ((eqOn.up rfl i hi).trans (eqOn.up rfl i hi)))) (fun i hi => (up_n (fam_n rfl i hi)).trans (up_n (fam_n rfl i hi))), pT0.mv ((up_n (by intro e; cases e)).trans ((up_n (by intro e; cases e)).trans ((up_n (by intro e; cases e)).trans (up_n (by intro e; cases e))))) ((up_n (by intro e; cases e)).trans ((up_n (by intro e; cases e)).trans ((up_n (by intro e; cases e)).trans (up_n (by intro e; cases e))))) ((up_n (by intro e; cases e)).trans (up_n (by intro e; cases e))), pT1.mv ((up_n (by intro e; cases e)).trans ((up_n (by intro e; cases e)).trans ((up_n (by intro e; cases e)).trans (up_n (by intro e; cases e))))) ((up_n (by intro e; cases e)).trans ((up_n (by intro e; cases e)).trans ((up_n (by intro e; cases e)).trans (up_n (by intro e; cases e))))) ((up_n (by intro e; cases e)).trans (up_n (by intro e; cases e))), ⟨(up_n (by intro e; cases e)).trans up_s, (up_n (by intro e; cases e)).trans ((up_n (by intro e; cases e)).trans up_s)⟩, fun i hi => (up_n (fam_n rfl i hi)).trans ((up_n (fam_n rfl i hi)).trans ((up_n (fam_n rfl i hi)).trans ((up_n (fam_n rfl i hi)).trans (pN i (fam_s rfl hi)))))⟩ (fun ad1 w1 hP => ?_)
  obtain ⟨pa, pw, p0, pD, pA, pT0, pT1, pT2, pN⟩ := hP
  have p00 := pa (0, 0) rfl
  refine r_aload_n (i := 0) hk (dk_at D_Mach_init 27 rfl) rfl rfl ?_
  refine r_new (i := (16, 0)) (ci := 4) (fs := [.null, .int (i32 0), .null, .null, .null, .int (i32 0), .int (i32 0)]) hk cl_Mach_86 in_Asm in_it_Asm rfl (dk_at D_Mach_init 28 rfl) (pN (16, 0) rfl) (by intro r hr k hk9; cases hr; revert k; decide +kernel) (by omega) (by omega) (fun a => ?_)
  refine r_dup hk (dk_at D_Mach_init 29 rfl) rfl ?_
  refine r_callIp hk hR m_Asm_init s_Asm_init ml_Mach_88 (dk_at D_Mach_init 30 rfl) (c_Asm_init G up_s ((up_n (by intro e; cases e)).trans (pN (17, 0) rfl)) ((up_n (by intro e; cases e)).trans (pN (18, 0) rfl)) ((up_n (by intro e; cases e)).trans (pN (19, 0) rfl)) ((up_n (by intro e; cases e)).trans (pN (20, 0) rfl))) (fun v ad2 w2 hp => ?_) VT_no
  obtain ⟨rfl, qa, qw, qo⟩ := hp
  refine r_putF (fs' := [_, _, _, _, _, _, _, _, _, _, _, _, _]) hk hin fl_Mach_89 ft_Mach_5 rfl (dk_at D_Mach_init 31 rfl) ?_ (i := (0, 0)) (ha := (qa (0, 0) rfl).trans ((up_n (by intro e; cases e)).trans p00)) (hw := (qw (0, 0) rfl).trans ((up_n (by intro e; cases e)).trans p0))
  refine r_gpA (fun ad1 w1 => (∀ i : Ix, in_fam 1 27 i = false → ad1 i = ad i) ∧ (∀ i : Ix, 28 ≤ i.1 → w1 i = w i) ∧ w1 (0, 0) = some (.inl (0, [.ref (ad1 (1, 0)), .ref (ad1 (4, 0)), .ref (ad1 (10, 0)), .ref (ad1 (12, 0)), .ref (ad1 (14, 0)), .ref (ad1 (16, 0)), .null, .int (i32 0), .int (i32 0), .null, .int (i32 0), .int (i32 0), .int (i32 0)])) ∧ wD ad1 w1 (fun _ => cdv 0) (fun _ => false) 0 ∧ wA ad1 w1 0 false false ∧ tW ad1 w1 (10, 0) (11, 0) 0 false ∧ tW ad1 w1 (12, 0) (13, 0) 0 false ∧ tW ad1 w1 (14, 0) (15, 0) 0 false ∧ wS ad1 w1 (fun _ => (0, 0, 0, 0)) 0 (fun _ => false) noP ∧ (∀ i : Ix, in_fam 21 27 i = true → w1 i = none)) ⟨fun i hi => (qa i (fam_f rfl hi)).trans ((up_n (nfam rfl hi)).trans (pa i hi)), fun i hi => (up_n (ne28 rfl hi)).trans ((qw i (fam_28 rfl hi)).trans ((up_n (ne28 rfl hi)).trans (pw i hi))), (up_s.trans (by rw [show ad2 (16, 0) = a from (qa (16, 0) rfl).trans up_s, show ad2 (1, 0) = ad1 (1, 0) from (qa (1, 0) rfl).trans (up_n (by intro e; cases e)), show ad2 (4, 0) = ad1 (4, 0) from (qa (4, 0) rfl).trans (up_n (by intro e; cases e)), show ad2 (10, 0) = ad1 (10, 0) from (qa (10, 0) rfl).trans (up_n (by intro e; cases e)), show ad2 (12, 0) = ad1 (12, 0) from (qa (12, 0) rfl).trans (up_n (by intro e; cases e)), show ad2 (14, 0) = ad1 (14, 0) from (qa (14, 0) rfl).trans (up_n (by intro e; cases e))])), pD.mv (fun i hi => (eqOn.up rfl i hi).trans ((qw i (fam_o rfl hi)).trans (eqOn.up rfl i hi))) (fun i hi => (qa i (fam_o rfl hi)).trans (up_n (fam_n rfl i hi))), pA.mv (fun i hi => (eqOn.up rfl i hi).trans ((qw i (fam_o rfl hi)).trans (eqOn.up rfl i hi))) (fun i hi => (qa i (fam_o rfl hi)).trans (up_n (fam_n rfl i hi))), pT0.mv ((up_n (by intro e; cases e)).trans ((qw _ rfl).trans (up_n (by intro e; cases e)))) ((up_n (by intro e; cases e)).trans ((qw _ rfl).trans (up_n (by intro e; cases e)))) ((qa _ rfl).trans (up_n (by intro e; cases e))), pT1.mv ((up_n (by intro e; cases e)).trans ((qw _ rfl).trans (up_n (by intro e; cases e)))) ((up_n (by intro e; cases e)).trans ((qw _ rfl).trans (up_n (by intro e; cases e)))) ((qa _ rfl).trans (up_n (by intro e; cases e))), pT2.mv ((up_n (by intro e; cases e)).trans ((qw _ rfl).trans (up_n (by intro e; cases e)))) ((up_n (by intro e; cases e)).trans ((qw _ rfl).trans (up_n (by intro e; cases e)))) ((qa _ rfl).trans (up_n (by intro e; cases e))), wS0.mv qo (eqOn.up rfl) (fun _ _ => rfl), fun i hi => (up_n (fam_n rfl i hi)).trans ((qw i (fam_o rfl hi)).trans ((up_n (fam_n rfl i hi)).trans (pN i (fam_s rfl hi))))⟩ (fun ad1 w1 hP => ?_)
  obtain ⟨pa, pw, p0, pD, pA, pT0, pT1, pT2, pS, pN⟩ := hP
  have p00 := pa (0, 0) rfl
  refine r_aload_n (i := 0) hk (dk_at D_Mach_init 32 rfl) rfl rfl ?_
  refine r_bipush hk (dk_at D_Mach_init 33 rfl) (by decide) ?_
  refine r_anew (t := 6) (n := 20) (i := (21, 0)) hk cl_Mach_73 rfl (Or.inr rfl) rfl (dk_at D_Mach_init 34 rfl) (pN (21, 0) rfl) rfl rfl (by omega) (by omega) (fun a => ?_)
  refine r_putF (fs' := [_, _, _, _, _, _, _, _, _, _, _, _, _]) hk hin fl_Mach_93 ft_Mach_6 rfl (dk_at D_Mach_init 35 rfl) ?_ (i := (0, 0)) (ha := (up_n (by intro e; cases e)).trans p00) (hw := (up_n (by intro e; cases e)).trans p0)
  refine r_gpA (fun ad1 w1 => (∀ i : Ix, in_fam 1 27 i = false → ad1 i = ad i) ∧ (∀ i : Ix, 28 ≤ i.1 → w1 i = w i) ∧ w1 (0, 0) = some (.inl (0, [.ref (ad1 (1, 0)), .ref (ad1 (4, 0)), .ref (ad1 (10, 0)), .ref (ad1 (12, 0)), .ref (ad1 (14, 0)), .ref (ad1 (16, 0)), .ref (ad1 (21, 0)), .int (i32 0), .int (i32 0), .null, .int (i32 0), .int (i32 0), .int (i32 0)])) ∧ wD ad1 w1 (fun _ => cdv 0) (fun _ => false) 0 ∧ wA ad1 w1 0 false false ∧ tW ad1 w1 (10, 0) (11, 0) 0 false ∧ tW ad1 w1 (12, 0) (13, 0) 0 false ∧ tW ad1 w1 (14, 0) (15, 0) 0 false ∧ wS ad1 w1 (fun _ => (0, 0, 0, 0)) 0 (fun _ => false) noP ∧ w1 (21, 0) = some (.inr (6, 20, fun _ => .null)) ∧ (∀ i : Ix, in_fam 22 27 i = true → w1 i = none)) ⟨fun i hi => (up_n (nfam rfl hi)).trans (pa i hi), fun i hi => (up_n (ne28 rfl hi)).trans ((up_n (ne28 rfl hi)).trans (pw i hi)), up_s, pD.mv (fun i hi => (eqOn.up rfl i hi).trans (eqOn.up rfl i hi)) (fun i hi => up_n (fam_n rfl i hi)), pA.mv (fun i hi => (eqOn.up rfl i hi).trans (eqOn.up rfl i hi)) (fun i hi => up_n (fam_n rfl i hi)), pT0.mv ((up_n (by intro e; cases e)).trans (up_n (by intro e; cases e))) ((up_n (by intro e; cases e)).trans (up_n (by intro e; cases e))) (up_n (by intro e; cases e)), pT1.mv ((up_n (by intro e; cases e)).trans (up_n (by intro e; cases e))) ((up_n (by intro e; cases e)).trans (up_n (by intro e; cases e))) (up_n (by intro e; cases e)), pT2.mv ((up_n (by intro e; cases e)).trans (up_n (by intro e; cases e))) ((up_n (by intro e; cases e)).trans (up_n (by intro e; cases e))) (up_n (by intro e; cases e)), wS0.mv pS (fun i hi => (eqOn.up rfl i hi).trans (eqOn.up rfl i hi)) (fun i hi => up_n (fam_n rfl i hi)), (up_n (by intro e; cases e)).trans up_s, fun i hi => (up_n (fam_n rfl i hi)).trans ((up_n (fam_n rfl i hi)).trans (pN i (fam_s rfl hi)))⟩ (fun ad1 w1 hP => ?_)
  obtain ⟨pa, pw, p0, pD, pA, pT0, pT1, pT2, pS, pC, pN⟩ := hP
  have p00 := pa (0, 0) rfl
  refine r_aload_n (i := 0) hk (dk_at D_Mach_init 36 rfl) rfl rfl ?_
  refine r_bipush hk (dk_at D_Mach_init 37 rfl) (by decide) ?_
  refine r_anew (t := 6) (n := 40) (i := (24, 0)) hk cl_Mach_73 rfl (Or.inr rfl) rfl (dk_at D_Mach_init 38 rfl) (pN (24, 0) rfl) rfl rfl (by omega) (by omega) (fun a => ?_)
  refine r_putF (fs' := [_, _, _, _, _, _, _, _, _, _, _, _, _]) hk hin fl_Mach_97 ft_Mach_9 rfl (dk_at D_Mach_init 39 rfl) ?_ (i := (0, 0)) (ha := (up_n (by intro e; cases e)).trans p00) (hw := (up_n (by intro e; cases e)).trans p0)
  refine lp1 _ _ ⟨⟨fun i hi => (up_n (nfam rfl hi)).trans (pa i hi), fun i hi => (up_n (ne28 rfl hi)).trans ((up_n (ne28 rfl hi)).trans (pw i hi)), up_s, pD.mv (fun i hi => (eqOn.up rfl i hi).trans (eqOn.up rfl i hi)) (fun i hi => up_n (fam_n rfl i hi)), pA.mv (fun i hi => (eqOn.up rfl i hi).trans (eqOn.up rfl i hi)) (fun i hi => up_n (fam_n rfl i hi)), pT0.mv ((up_n (by intro e; cases e)).trans (up_n (by intro e; cases e))) ((up_n (by intro e; cases e)).trans (up_n (by intro e; cases e))) (up_n (by intro e; cases e)), pT1.mv ((up_n (by intro e; cases e)).trans (up_n (by intro e; cases e))) ((up_n (by intro e; cases e)).trans (up_n (by intro e; cases e))) (up_n (by intro e; cases e)), pT2.mv ((up_n (by intro e; cases e)).trans (up_n (by intro e; cases e))) ((up_n (by intro e; cases e)).trans (up_n (by intro e; cases e))) (up_n (by intro e; cases e)), wS0.mv pS (fun i hi => (eqOn.up rfl i hi).trans (eqOn.up rfl i hi)) (fun i hi => up_n (fam_n rfl i hi))⟩, ?_⟩
  exact ⟨(up_n (by intro e; cases e)).trans ((up_n (by intro e; cases e)).trans pC), (up_n (by intro e; cases e)).trans up_s, fun k => ⟨(up_n (by intro e; cases e)).trans ((up_n (by intro e; cases e)).trans (pN (22, k) rfl)), (up_n (by intro e; cases e)).trans ((up_n (by intro e; cases e)).trans (pN (23, k) rfl)), (up_n (by intro e; cases e)).trans ((up_n (by intro e; cases e)).trans (pN (25, k) rfl)), (up_n (by intro e; cases e)).trans ((up_n (by intro e; cases e)).trans (pN (26, k) rfl))⟩⟩
