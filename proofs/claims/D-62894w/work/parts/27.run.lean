/-! rows for need and mustBe; DrumMachine: what can be asked and told -/
theorem r_must {G : Gt} {K : Kt} {cc : ByteArray} {nL : Nat} {ret : Option FieldType} {cs ss pc q mc ms D C S idx : Nat} {ls : List (Option Value)} {st : List Value} {ad : Ix → Nat} {w : Wt} {post : Pst} {thr : Tst} {b : Bool} (hk : Ok G K "DrumMachine" cc nL ret []) (hR : Rm K D C S) (hl : Lk "DrumMachine" idx y_Mach_mustBe) (hd : decode cc pc = .ok (.invokestatic idx, 3) ∧ pc + 3 = q) (ht : b = false → thr "java/lang/IndexOutOfBoundsException" ad w) (kk : b = true → V G K nL (QE G K post thr mc ms) (cs + 1) (ss + 6) q ls st ad w)
    (hst : Nat.ble (st.map fun v => v.category).sum 8 = true := by rfl) (hfr : Nat.blt 6 D = true := by rfl) (hce : Nat.ble (cs + 1) C = true := by rfl) (hsl : Nat.ble (ss + 6) S = true := by rfl) (hm : Nat.ble (cs + 1) mc = true := by rfl) (hs : Nat.ble (ss + 6) ms = true := by rfl) : V G K nL (QE G K post thr mc ms) cs ss pc ls (.int (i32 (b2i b)) :: st) ad w :=
  r_callSp hk hR m_Mach_mustBe s_Mach_mustBe hl hd (c_Mach_mustBe G (b := b)) (fun v a' w'' hp => by obtain ⟨rfl, rfl, rfl, hb⟩ := hp; exact kk hb) (fun C a' w'' hp => by obtain ⟨rfl, rfl, rfl, hb⟩ := hp; exact VT_leave hk rfl (ht hb) hm hs) rfl rfl hst hfr hce hsl rfl
theorem r_need {G : Gt} {K : Kt} {cc : ByteArray} {nL : Nat} {ret : Option FieldType} {cs ss pc q mc ms D C S idx : Nat} {ls : List (Option Value)} {st : List Value} {ad : Ix → Nat} {w : Wt} {post : Pst} {thr : Tst} {b : Bool} (hk : Ok G K "DrumMachine" cc nL ret []) (hR : Rm K D C S) (hl : Lk "DrumMachine" idx y_Mach_need) (hd : decode cc pc = .ok (.invokestatic idx, 3) ∧ pc + 3 = q) (ht : b = false → thr "java/lang/IllegalArgumentException" ad w) (kk : b = true → V G K nL (QE G K post thr mc ms) (cs + 1) (ss + 6) q ls st ad w)
    (hst : Nat.ble (st.map fun v => v.category).sum 8 = true := by rfl) (hfr : Nat.blt 6 D = true := by rfl) (hce : Nat.ble (cs + 1) C = true := by rfl) (hsl : Nat.ble (ss + 6) S = true := by rfl) (hm : Nat.ble (cs + 1) mc = true := by rfl) (hs : Nat.ble (ss + 6) ms = true := by rfl) : V G K nL (QE G K post thr mc ms) cs ss pc ls (.int (i32 (b2i b)) :: st) ad w :=
  r_callSp hk hR m_Mach_need s_Mach_need hl hd (c_Mach_need G (b := b)) (fun v a' w'' hp => by obtain ⟨rfl, rfl, rfl, hb⟩ := hp; exact kk hb) (fun C a' w'' hp => by obtain ⟨rfl, rfl, rfl, hb⟩ := hp; exact VT_leave hk rfl (ht hb) hm hs) rfl rfl hst hfr hce hsl rfl
theorem r_throw_ {G : Gt} {K : Kt} {cc : ByteArray} {nL : Nat} {ret : Option FieldType} {cs ss pc q0 q1 q2 q3 mc ms idn ic D CC S : Nat} {ls : List (Option Value)} {ad : Ix → Nat} {w : Wt} {post : Pst} {thr : Tst} {C : String} (hk : Ok G K "DrumMachine" cc nL ret []) (hR : Rm K D CC S) (hx : Ex idn ic C)
    (d0 : decode cc pc = .ok (.new idn, 3) ∧ pc + 3 = q0) (d1 : decode cc q0 = .ok (.dup, 1) ∧ q0 + 1 = q1) (d2 : decode cc q1 = .ok (.invokespecial ic, 3) ∧ q1 + 3 = q2) (d3 : decode cc q2 = .ok (.athrow, 1) ∧ q2 + 1 = q3) (hp : thr C ad w)
    (hm : Nat.ble (cs + 1) mc = true := by rfl) (hs : Nat.ble (ss + 6) ms = true := by rfl) (hfr : Nat.ble 6 D = true := by rfl) (hce : Nat.ble (cs + 1) CC = true := by rfl) (hsl : Nat.ble (ss + 6) S = true := by rfl) : V G K nL (QE G K post thr mc ms) cs ss pc ls [] ad w := by
  have h1 := Nat.le_of_ble_eq_true hfr
  have h2 := Nat.le_of_ble_eq_true hce
  have h3 := Nat.le_of_ble_eq_true hsl
  obtain ⟨r1, r2, r3, r4⟩ := hR
  exact r_throw hk hx d0 d1 d2 d3 hp hm hs ⟨by omega, by omega⟩ (by omega) (by omega)
theorem c_Mach_fault (G : Gt) {w0 w : Wt} {ad : Ix → Nat} {c : Nat → Nat → Nat} {g : Nat → Bool} {t : Nat} {A : Nat} {mn : Bool} {ov : Bool} {dv : Nat} {dm : Bool} {nx : Nat} {fl : Int} {q : Nat → Nat × Bool} {qn : Nat} {o : Nat → Nat × Bool} {on : Nat} {ln : Nat → Int × Int × Int × Int} {m : Nat} {r : Nat → Bool} {p : Nat → Int} {fc : Nat} (h : WW w0 ad w (c, g, t, A, mn, ov, dv, dm, nx, fl, q, qn, o, on, ln, m, r, p, fc)) : Mt G y_Mach_fault w_Mach_fault 0 0 0 [.ref (ad (0, 0))] ad w (ex (some (.int (i32 fl))) ad w) noT := by
  refine Mt.to [some (.ref (ad (0, 0)))] (fun K hk hR hin => ?_)
  have h0 := h.m0
  have h1 := h.d1
  refine r_aload_n (i := 0) hk (dk_at D_Mach_fault 0 rfl) rfl rfl ?_
  refine r_get hk fl_Mach_241 (dk_at D_Mach_fault 1 rfl) ?_
  exact r_iret hk (dk_at D_Mach_fault 2 rfl) ex.rf
theorem c_Mach_next (G : Gt) {w0 w : Wt} {ad : Ix → Nat} {c : Nat → Nat → Nat} {g : Nat → Bool} {t : Nat} {A : Nat} {mn : Bool} {ov : Bool} {dv : Nat} {dm : Bool} {nx : Nat} {fl : Int} {q : Nat → Nat × Bool} {qn : Nat} {o : Nat → Nat × Bool} {on : Nat} {ln : Nat → Int × Int × Int × Int} {m : Nat} {r : Nat → Bool} {p : Nat → Int} {fc : Nat} (h : WW w0 ad w (c, g, t, A, mn, ov, dv, dm, nx, fl, q, qn, o, on, ln, m, r, p, fc)) : Mt G y_Mach_next w_Mach_next 0 0 0 [.ref (ad (0, 0))] ad w (ex (some (.int (i32 nx))) ad w) noT := by
  refine Mt.to [some (.ref (ad (0, 0)))] (fun K hk hR hin => ?_)
  have h0 := h.m0
  have h1 := h.d1
  refine r_aload_n (i := 0) hk (dk_at D_Mach_next 0 rfl) rfl rfl ?_
  refine r_get hk fl_Mach_220 (dk_at D_Mach_next 1 rfl) ?_
  exact r_iret hk (dk_at D_Mach_next 2 rfl) ex.rf
theorem c_Mach_outputs (G : Gt) {w0 w : Wt} {ad : Ix → Nat} {c : Nat → Nat → Nat} {g : Nat → Bool} {t : Nat} {A : Nat} {mn : Bool} {ov : Bool} {dv : Nat} {dm : Bool} {nx : Nat} {fl : Int} {q : Nat → Nat × Bool} {qn : Nat} {o : Nat → Nat × Bool} {on : Nat} {ln : Nat → Int × Int × Int × Int} {m : Nat} {r : Nat → Bool} {p : Nat → Int} {fc : Nat} (h : WW w0 ad w (c, g, t, A, mn, ov, dv, dm, nx, fl, q, qn, o, on, ln, m, r, p, fc)) : Mt G y_Mach_outputs w_Mach_outputs 0 0 0 [.ref (ad (0, 0))] ad w (ex (some (.int (i32 on))) ad w) noT := by
  refine Mt.to [some (.ref (ad (0, 0)))] (fun K hk hR hin => ?_)
  have h0 := h.m0
  have h1 := h.d1
  refine r_aload_n (i := 0) hk (dk_at D_Mach_outputs 0 rfl) rfl rfl ?_
  refine r_get hk fl_Mach_135 (dk_at D_Mach_outputs 1 rfl) ?_
  exact r_iret hk (dk_at D_Mach_outputs 2 rfl) ex.rf
theorem c_Mach_time (G : Gt) {w0 w : Wt} {ad : Ix → Nat} {c : Nat → Nat → Nat} {g : Nat → Bool} {t : Nat} {A : Nat} {mn : Bool} {ov : Bool} {dv : Nat} {dm : Bool} {nx : Nat} {fl : Int} {q : Nat → Nat × Bool} {qn : Nat} {o : Nat → Nat × Bool} {on : Nat} {ln : Nat → Int × Int × Int × Int} {m : Nat} {r : Nat → Bool} {p : Nat → Int} {fc : Nat} (h : WW w0 ad w (c, g, t, A, mn, ov, dv, dm, nx, fl, q, qn, o, on, ln, m, r, p, fc)) : Mt G y_Mach_time w_Mach_time 0 0 0 [.ref (ad (0, 0))] ad w (ex (some (.long (i64 t))) ad w) noT := by
  refine Mt.to [some (.ref (ad (0, 0)))] (fun K hk hR hin => ?_)
  have h0 := h.m0
  have h1 := h.d1
  refine r_aload_n (i := 0) hk (dk_at D_Mach_time 0 rfl) rfl rfl ?_
  refine r_get hk fl_Mach_62 (dk_at D_Mach_time 1 rfl) ?_
  refine r_getN hk fl_Mach_311 (dk_at D_Mach_time 2 rfl) ?_
  exact r_lret hk (dk_at D_Mach_time 3 rfl) ex.rf
def flt : St → Int
  | (c, g, t, A, mn, ov, dv, dm, nx, fl, q, qn, o, on, ln, m, r, p, fc) => fl
def setFl (z : Int) : St → St
  | (c, g, t, A, mn, ov, dv, dm, nx, fl, q, qn, o, on, ln, m, r, p, fc) => (c, g, t, A, mn, ov, dv, dm, nx, z, q, qn, o, on, ln, m, r, p, fc)
/-- run: fuel, state, steps done -/
def rn : Nat → St → Nat → St × Nat
  | 0, σ, d => (σ, d)
  | n + 1, σ, d => if flt σ = -1 then rn n (setFl (stp σ).2 (stp σ).1) (if (stp σ).2 = -1 ∨ (stp σ).2 = 0 then d + 1 else d) else (σ, d)
theorem rn_stop {n d : Nat} {σ : St} (h : flt σ ≠ -1) : rn n σ d = (σ, d) := by
  cases n with
  | zero => rfl
  | succ n => exact if_neg h
theorem c_Mach_start (G : Gt) {w0 w : Wt} {ad : Ix → Nat} {c : Nat → Nat → Nat} {g : Nat → Bool} {t : Nat} {A : Nat} {mn : Bool} {ov : Bool} {dv : Nat} {dm : Bool} {nx : Nat} {fl : Int} {q : Nat → Nat × Bool} {qn : Nat} {o : Nat → Nat × Bool} {on : Nat} {ln : Nat → Int × Int × Int × Int} {m : Nat} {r : Nat → Bool} {p : Nat → Int} {fc : Nat} {z : Int} (hz : -2147483648 ≤ z ∧ z < 2147483648) (h : WW w0 ad w (c, g, t, A, mn, ov, dv, dm, nx, fl, q, qn, o, on, ln, m, r, p, fc)) : Mt G y_Mach_start w_Mach_start 7 1 6 [.ref (ad (0, 0)), .int (i32 z)] ad w (fun rv ad' w' => rv = none ∧ ad' = ad ∧ WW w0 ad w' (c, g, t, A, mn, ov, dv, dm, z.toNat, -1, q, qn, o, on, ln, m, r, p, fc) ∧ (0 ≤ z ∧ z ≤ 9999)) (fun C ad' w' => ad' = ad ∧ WW w0 ad w' (c, g, t, A, mn, ov, dv, dm, nx, fl, q, qn, o, on, ln, m, r, p, fc) ∧ C = "java/lang/IllegalArgumentException" ∧ ¬ (0 ≤ z ∧ z ≤ 9999)) := by
  refine Mt.to [some (.ref (ad (0, 0))), some (.int (i32 z))] (fun K hk hR hin => ?_)
  have h0 := h.m0
  have mg : ∀ b : Bool, b = decide (0 ≤ z ∧ z ≤ 9999) → V G K 2 (QE G K (fun rv ad' w' => rv = none ∧ ad' = ad ∧ WW w0 ad w' (c, g, t, A, mn, ov, dv, dm, z.toNat, -1, q, qn, o, on, ln, m, r, p, fc) ∧ (0 ≤ z ∧ z ≤ 9999)) (fun C ad' w' => ad' = ad ∧ WW w0 ad w' (c, g, t, A, mn, ov, dv, dm, nx, fl, q, qn, o, on, ln, m, r, p, fc) ∧ C = "java/lang/IllegalArgumentException" ∧ ¬ (0 ≤ z ∧ z ≤ 9999)) 1 6) 0 0 16 [some (.ref (ad (0, 0))), some (.int (i32 z))] [.int (i32 (b2i b))] ad w := by
    intro b hb
    refine r_need hk hR ml_Mach_237 (dk_at D_Mach_start 8 rfl) (fun c_16 => ⟨rfl, h, rfl, of_decide_eq_false (by rw [← hb]; exact c_16)⟩) (fun c_16 => ?_)
    have hc : 0 ≤ z ∧ z ≤ 9999 := of_decide_eq_true (by rw [← hb]; exact c_16)
    obtain ⟨n, rfl⟩ : ∃ n : Nat, z = (n : Int) := ⟨z.toNat, by omega⟩
    refine r_aload_n (i := 0) hk (dk_at D_Mach_start 9 rfl) rfl rfl ?_
    refine r_iload_n (i := 1) hk (dk_at D_Mach_start 10 rfl) rfl rfl ?_
    refine r_put (fs' := [_, _, _, _, _, _, _, _, _, _, _, _, _]) hk fl_Mach_220 ft_Mach_11 (dk_at D_Mach_start 11 rfl) ?_
    refine r_aload_n (i := 0) hk (dk_at D_Mach_start 12 rfl) rfl rfl ?_
    refine r_iconst hk (dk_at D_Mach_start 13 rfl) ?_
    refine r_put (fs' := [_, _, _, _, _, _, _, _, _, _, _, _, _]) hk fl_Mach_241 ft_Mach_12 (dk_at D_Mach_start 14 rfl) ?_
    exact r_vret hk (dk_at D_Mach_start 15 rfl) ⟨rfl, rfl, by have h9 := h.mach (nx' := n) (fl' := -1); rw [up_up]; exact h9, hc⟩
  refine r_iload_n (i := 1) hk (dk_at D_Mach_start 0 rfl) rfl rfl ?_
  refine r_if_lt (t := 15) hk (dk_at D_Mach_start 1 rfl) (by decide) (by omega) (fun c_1 => ?_) (fun c_1 => ?_)
  · refine r_iconst hk (dk_at D_Mach_start 7 rfl) ?_
    exact mg false (decide_eq_false (by omega)).symm
  · refine r_iload_n (i := 1) hk (dk_at D_Mach_start 2 rfl) rfl rfl ?_
    refine r_sipush hk (dk_at D_Mach_start 3 rfl) (by decide) ?_
    refine r_icmp_gt (t := 15) hk (dk_at D_Mach_start 4 rfl) (by decide) (by omega) (by omega) (fun c_8 => ?_) (fun c_8 => ?_)
    · refine r_iconst hk (dk_at D_Mach_start 7 rfl) ?_
      exact mg false (decide_eq_false (by omega)).symm
    · refine r_iconst hk (dk_at D_Mach_start 5 rfl) ?_
      refine r_goto (t := 16) hk (dk_at D_Mach_start 6 rfl) (by decide) ?_
      exact mg true (decide_eq_true (by omega)).symm
theorem stp_kp' {σ : St} (hw : wf σ) : Kp σ (stp σ) 500 := by
  obtain ⟨c, g, t, A, mn, ov, dv, dm, nx, fl, q, qn, o, on, ln, m, r, p, fc⟩ := σ
  exact stp_kp hw
theorem setFl_wf {z : Int} {σ : St} (h : wf σ) (hz : -1 ≤ z ∧ z ≤ 5) : wf (setFl z σ) := by
  obtain ⟨c, g, t, A, mn, ov, dv, dm, nx, fl, q, qn, o, on, ln, m, r, p, fc⟩ := σ
  obtain ⟨hc, hA, hdv, hnx, hfl, hq, hqn, ho, hon, hln, hm, hp, hfc⟩ := h
  exact ⟨hc, hA, hdv, hnx, hz, hq, hqn, ho, hon, hln, hm, hp, hfc⟩
theorem rn_kp : ∀ (n : Nat) (σ : St) (d : Nat), wf σ → wf (rn n σ d).1 ∧ (rn n σ d).1.2.2.1 ≤ σ.2.2.1 + 500 * n ∧ (rn n σ d).2 ≤ d + n
  | 0, σ, d, hw => ⟨hw, Nat.le_add_right _ _, Nat.le_refl _⟩
  | n + 1, σ, d, hw => by
    unfold rn
    split
    · obtain ⟨k1, k2, k3⟩ := stp_kp' hw
      have hs : (setFl (stp σ).2 (stp σ).1).2.2.1 = (stp σ).1.2.2.1 := by
        obtain ⟨⟨c1, g1, t1, A1, mn1, ov1, dv1, dm1, nx1, fl1, q1, qn1, o1, on1, ln1, m1, r1, p1, fc1⟩, why⟩ := stp σ
        rfl
      obtain ⟨i1, i2, i3⟩ := rn_kp n (setFl (stp σ).2 (stp σ).1) (if (stp σ).2 = -1 ∨ (stp σ).2 = 0 then d + 1 else d) (setFl_wf k1 k2)
      refine ⟨i1, by omega, Nat.le_trans i3 ?_⟩
      split <;> omega
    · exact ⟨hw, Nat.le_add_right _ _, Nat.le_add_right _ _⟩
theorem c_Mach_run (G : Gt) {w0 w : Wt} {ad : Ix → Nat} {c : Nat → Nat → Nat} {g : Nat → Bool} {t : Nat} {A : Nat} {mn : Bool} {ov : Bool} {dv : Nat} {dm : Bool} {nx : Nat} {fl : Int} {q : Nat → Nat × Bool} {qn : Nat} {o : Nat → Nat × Bool} {on : Nat} {ln : Nat → Int × Int × Int × Int} {m : Nat} {r : Nat → Bool} {p : Nat → Int} {fc : Nat} {z : Int} (hz : -2147483648 ≤ z ∧ z < 2147483648) (h : WW w0 ad w (c, g, t, A, mn, ov, dv, dm, nx, fl, q, qn, o, on, ln, m, r, p, fc)) (hw : wf (c, g, t, A, mn, ov, dv, dm, nx, fl, q, qn, o, on, ln, m, r, p, fc)) (ht : t < 10000000000) : Mt G y_Mach_run w_Mach_run 7 2 12 [.ref (ad (0, 0)), .int (i32 z)] ad w (fun rv ad' w' => rv = some (.int (i32 ((rn z.toNat (c, g, t, A, mn, ov, dv, dm, nx, fl, q, qn, o, on, ln, m, r, p, fc) 0).2 : Nat))) ∧ ad' = ad ∧ WW w0 ad w' (rn z.toNat (c, g, t, A, mn, ov, dv, dm, nx, fl, q, qn, o, on, ln, m, r, p, fc) 0).1 ∧ (0 ≤ z ∧ z ≤ 300) ∧ fl = -1) (fun C ad' w' => ad' = ad ∧ WW w0 ad w' (c, g, t, A, mn, ov, dv, dm, nx, fl, q, qn, o, on, ln, m, r, p, fc) ∧ ((C = "java/lang/IllegalArgumentException" ∧ ¬ (0 ≤ z ∧ z ≤ 300)) ∨ (C = "java/lang/IllegalStateException" ∧ (0 ≤ z ∧ z ≤ 300) ∧ fl ≠ -1))) := by
  refine Mt.to [some (.ref (ad (0, 0))), some (.int (i32 z)), none] (fun K hk hR hin => ?_)
  have h0 := h.m0
  have hfl := hw.2.2.2.2.1
  have loop : (0 ≤ z ∧ z ≤ 300) → fl = -1 → ∀ (n : Nat) (c1 : Nat → Nat → Nat) (g1 : Nat → Bool) (t1 : Nat) (A1 : Nat) (mn1 : Bool) (ov1 : Bool) (dv1 : Nat) (dm1 : Bool) (nx1 : Nat) (fl1 : Int) (q1 : Nat → Nat × Bool) (qn1 : Nat) (o1 : Nat → Nat × Bool) (on1 : Nat) (ln1 : Nat → Int × Int × Int × Int) (m1 : Nat) (r1 : Nat → Bool) (p1 : Nat → Int) (fc1 : Nat) (w : Wt) (d : Nat) (y : Int), y = (d : Int) → WW w0 ad w (c1, g1, t1, A1, mn1, ov1, dv1, dm1, nx1, fl1, q1, qn1, o1, on1, ln1, m1, r1, p1, fc1) → wf (c1, g1, t1, A1, mn1, ov1, dv1, dm1, nx1, fl1, q1, qn1, o1, on1, ln1, m1, r1, p1, fc1) → t1 + 500 * n < 100000000000 → (fl1 = -1 → n + d = z.toNat) → d ≤ z.toNat → rn n (c1, g1, t1, A1, mn1, ov1, dv1, dm1, nx1, fl1, q1, qn1, o1, on1, ln1, m1, r1, p1, fc1) d = rn z.toNat (c, g, t, A, mn, ov, dv, dm, nx, fl, q, qn, o, on, ln, m, r, p, fc) 0 → V G K 3 (QE G K (fun rv ad' w' => rv = some (.int (i32 ((rn z.toNat (c, g, t, A, mn, ov, dv, dm, nx, fl, q, qn, o, on, ln, m, r, p, fc) 0).2 : Nat))) ∧ ad' = ad ∧ WW w0 ad w' (rn z.toNat (c, g, t, A, mn, ov, dv, dm, nx, fl, q, qn, o, on, ln, m, r, p, fc) 0).1 ∧ (0 ≤ z ∧ z ≤ 300) ∧ fl = -1) (fun C ad' w' => ad' = ad ∧ WW w0 ad w' (c, g, t, A, mn, ov, dv, dm, nx, fl, q, qn, o, on, ln, m, r, p, fc) ∧ ((C = "java/lang/IllegalArgumentException" ∧ ¬ (0 ≤ z ∧ z ≤ 300)) ∨ (C = "java/lang/IllegalStateException" ∧ (0 ≤ z ∧ z ≤ 300) ∧ fl ≠ -1))) 2 12) 1 6 37 [some (.ref (ad (0, 0))), some (.int (i32 z)), some (.int (i32 y))] [] ad w := by
    intro hz3 hflm n
    induction n with
    | zero =>
      intro c1 g1 t1 A1 mn1 ov1 dv1 dm1 nx1 fl1 q1 qn1 o1 on1 ln1 m1 r1 p1 fc1 w d y hy h hw ht hn hd hr
      subst hy
      have h0 := h.m0
      have hfl1 := hw.2.2.2.2.1
      have eR : rn z.toNat (c, g, t, A, mn, ov, dv, dm, nx, fl, q, qn, o, on, ln, m, r, p, fc) 0 = ((c1, g1, t1, A1, mn1, ov1, dv1, dm1, nx1, fl1, q1, qn1, o1, on1, ln1, m1, r1, p1, fc1), d) := hr.symm
      refine r_iload_n (i := 2) hk (dk_at D_Mach_run 19 rfl) rfl rfl ?_
      refine r_iload_n (i := 1) hk (dk_at D_Mach_run 20 rfl) rfl rfl ?_
      refine r_icmp_ge (t := 79) hk (dk_at D_Mach_run 21 rfl) (by decide) (by omega) (by omega) (fun c_39 => ?_) (fun c_39 => ?_)
      · refine r_iload_n (i := 2) hk (dk_at D_Mach_run 39 rfl) rfl rfl ?_
        exact r_iret hk (dk_at D_Mach_run 40 rfl) ⟨by rw [eR], rfl, by rw [eR]; exact h, hz3, hflm⟩
      · refine r_aload_n (i := 0) hk (dk_at D_Mach_run 22 rfl) rfl rfl ?_
        refine r_get hk fl_Mach_241 (dk_at D_Mach_run 23 rfl) ?_ (hw := h0)
        refine r_iconst hk (dk_at D_Mach_run 24 rfl) ?_
        refine r_icmp_ne (t := 79) hk (dk_at D_Mach_run 25 rfl) (by decide) (by omega) (by omega) (fun c_47 => ?_) (fun c_47 => ?_)
        · refine r_iload_n (i := 2) hk (dk_at D_Mach_run 39 rfl) rfl rfl ?_
          exact r_iret hk (dk_at D_Mach_run 40 rfl) ⟨by rw [eR], rfl, by rw [eR]; exact h, hz3, hflm⟩
        · exact absurd (hn (by omega)) (by omega)
    | succ n ih =>
      intro c1 g1 t1 A1 mn1 ov1 dv1 dm1 nx1 fl1 q1 qn1 o1 on1 ln1 m1 r1 p1 fc1 w d y hy h hw ht hn hd hr
      subst hy
      have h0 := h.m0
      have hfl1 := hw.2.2.2.2.1
      have off : fl1 ≠ -1 → rn z.toNat (c, g, t, A, mn, ov, dv, dm, nx, fl, q, qn, o, on, ln, m, r, p, fc) 0 = ((c1, g1, t1, A1, mn1, ov1, dv1, dm1, nx1, fl1, q1, qn1, o1, on1, ln1, m1, r1, p1, fc1), d) := fun hh => hr.symm.trans (rn_stop (σ := (c1, g1, t1, A1, mn1, ov1, dv1, dm1, nx1, fl1, q1, qn1, o1, on1, ln1, m1, r1, p1, fc1)) hh)
      refine r_iload_n (i := 2) hk (dk_at D_Mach_run 19 rfl) rfl rfl ?_
      refine r_iload_n (i := 1) hk (dk_at D_Mach_run 20 rfl) rfl rfl ?_
      refine r_icmp_ge (t := 79) hk (dk_at D_Mach_run 21 rfl) (by decide) (by omega) (by omega) (fun c_39 => ?_) (fun c_39 => ?_)
      · have eR := off (fun z => absurd (hn z) (by omega))
        refine r_iload_n (i := 2) hk (dk_at D_Mach_run 39 rfl) rfl rfl ?_
        exact r_iret hk (dk_at D_Mach_run 40 rfl) ⟨by rw [eR], rfl, by rw [eR]; exact h, hz3, hflm⟩
      · refine r_aload_n (i := 0) hk (dk_at D_Mach_run 22 rfl) rfl rfl ?_
        refine r_get hk fl_Mach_241 (dk_at D_Mach_run 23 rfl) ?_ (hw := h0)
        refine r_iconst hk (dk_at D_Mach_run 24 rfl) ?_
        refine r_icmp_ne (t := 79) hk (dk_at D_Mach_run 25 rfl) (by decide) (by omega) (by omega) (fun c_47 => ?_) (fun c_47 => ?_)
        · have eR := off c_47
          refine r_iload_n (i := 2) hk (dk_at D_Mach_run 39 rfl) rfl rfl ?_
          exact r_iret hk (dk_at D_Mach_run 40 rfl) ⟨by rw [eR], rfl, by rw [eR]; exact h, hz3, hflm⟩
        · have hf : fl1 = -1 := by omega
          have hkp := stp_kp' hw
          have er : rn (n + 1) (c1, g1, t1, A1, mn1, ov1, dv1, dm1, nx1, fl1, q1, qn1, o1, on1, ln1, m1, r1, p1, fc1) d = rn n (setFl (stp (c1, g1, t1, A1, mn1, ov1, dv1, dm1, nx1, fl1, q1, qn1, o1, on1, ln1, m1, r1, p1, fc1)).2 (stp (c1, g1, t1, A1, mn1, ov1, dv1, dm1, nx1, fl1, q1, qn1, o1, on1, ln1, m1, r1, p1, fc1)).1) (if (stp (c1, g1, t1, A1, mn1, ov1, dv1, dm1, nx1, fl1, q1, qn1, o1, on1, ln1, m1, r1, p1, fc1)).2 = -1 ∨ (stp (c1, g1, t1, A1, mn1, ov1, dv1, dm1, nx1, fl1, q1, qn1, o1, on1, ln1, m1, r1, p1, fc1)).2 = 0 then d + 1 else d) := if_pos hf
          rw [er] at hr
          refine r_aload_n (i := 0) hk (dk_at D_Mach_run 26 rfl) rfl rfl ?_
          refine r_aload_n (i := 0) hk (dk_at D_Mach_run 27 rfl) rfl rfl ?_
          refine r_callVq hk hR m_Mach_step s_Mach_step ml_Mach_247 (dk_at D_Mach_run 28 rfl) (c_Mach_step G h hw (by omega)) (fun w h => ?_) (i := (0, 0)) (hw := h0)
          generalize stp (c1, g1, t1, A1, mn1, ov1, dv1, dm1, nx1, fl1, q1, qn1, o1, on1, ln1, m1, r1, p1, fc1) = R at h hkp hr ⊢
          obtain ⟨⟨c2, g2, t2, A2, mn2, ov2, dv2, dm2, nx2, fl2, q2, qn2, o2, on2, ln2, m2, r2, p2, fc2⟩, why⟩ := R
          obtain ⟨hw2, hwhy, htm⟩ := hkp
          have h : WW w0 ad w (c2, g2, t2, A2, mn2, ov2, dv2, dm2, nx2, fl2, q2, qn2, o2, on2, ln2, m2, r2, p2, fc2) := h
          have hwhy : -1 ≤ why ∧ why ≤ 5 := hwhy
          have htm : t2 ≤ t1 + 500 := htm
          have hn1 := hn hf
          clear h0
          have h0 := h.m0
          show V G K 3 (QE G K (fun rv ad' w' => rv = some (.int (i32 ((rn z.toNat (c, g, t, A, mn, ov, dv, dm, nx, fl, q, qn, o, on, ln, m, r, p, fc) 0).2 : Nat))) ∧ ad' = ad ∧ WW w0 ad w' (rn z.toNat (c, g, t, A, mn, ov, dv, dm, nx, fl, q, qn, o, on, ln, m, r, p, fc) 0).1 ∧ (0 ≤ z ∧ z ≤ 300) ∧ fl = -1) (fun C ad' w' => ad' = ad ∧ WW w0 ad w' (c, g, t, A, mn, ov, dv, dm, nx, fl, q, qn, o, on, ln, m, r, p, fc) ∧ ((C = "java/lang/IllegalArgumentException" ∧ ¬ (0 ≤ z ∧ z ≤ 300)) ∨ (C = "java/lang/IllegalStateException" ∧ (0 ≤ z ∧ z ≤ 300) ∧ fl ≠ -1))) 2 12) 1 6 55 _ [.int (i32 why), .ref (ad (0, 0))] ad w
          refine r_put (fs' := [_, _, _, _, _, _, _, _, _, _, _, _, _]) hk fl_Mach_241 ft_Mach_12 (dk_at D_Mach_run 29 rfl) ?_
          refine r_gp (fun w => WW w0 ad w (c2, g2, t2, A2, mn2, ov2, dv2, dm2, nx2, why, q2, qn2, o2, on2, ln2, m2, r2, p2, fc2)) (h.mach (nx' := nx2) (fl' := why)) (fun w h => ?_)
          have h0 := h.m0
          have hw3 : wf (c2, g2, t2, A2, mn2, ov2, dv2, dm2, nx2, why, q2, qn2, o2, on2, ln2, m2, r2, p2, fc2) := setFl_wf (σ := (c2, g2, t2, A2, mn2, ov2, dv2, dm2, nx2, fl2, q2, qn2, o2, on2, ln2, m2, r2, p2, fc2)) hw2 hwhy
          refine r_aload_n (i := 0) hk (dk_at D_Mach_run 30 rfl) rfl rfl ?_
          refine r_get hk fl_Mach_241 (dk_at D_Mach_run 31 rfl) ?_ (hw := h0)
          refine r_iconst hk (dk_at D_Mach_run 32 rfl) ?_
          refine r_icmp_eq (t := 73) hk (dk_at D_Mach_run 33 rfl) (by decide) (by omega) (by omega) (fun c_63 => ?_) (fun c_63 => ?_)
          · refine r_iinc (i := 2) (ls' := [_, _, _]) hk (dk_at D_Mach_run 37 rfl) rfl rfl rfl rfl ?_
            refine r_goto (t := 37) hk (dk_at D_Mach_run 38 rfl) (by decide) ?_
            exact ih c2 g2 t2 A2 mn2 ov2 dv2 dm2 nx2 why q2 qn2 o2 on2 ln2 m2 r2 p2 fc2 w (d + 1) _ (by omega) h hw3 (by omega) (fun z => by omega) (by omega) (by rw [← hr]; exact (congrArg (rn n _) (if_pos (by show why = -1 ∨ why = 0; omega))).symm)
          · refine r_aload_n (i := 0) hk (dk_at D_Mach_run 34 rfl) rfl rfl ?_
            refine r_get hk fl_Mach_241 (dk_at D_Mach_run 35 rfl) ?_ (hw := h0)
            refine r_if_ne (t := 37) hk (dk_at D_Mach_run 36 rfl) (by decide) (by omega) (fun c_70 => ?_) (fun c_70 => ?_)
            · exact ih c2 g2 t2 A2 mn2 ov2 dv2 dm2 nx2 why q2 qn2 o2 on2 ln2 m2 r2 p2 fc2 w d _ rfl h hw3 (by omega) (fun z => by omega) hd (by rw [← hr]; exact (congrArg (rn n _) (if_neg (by show ¬ (why = -1 ∨ why = 0); omega))).symm)
            · refine r_iinc (i := 2) (ls' := [_, _, _]) hk (dk_at D_Mach_run 37 rfl) rfl rfl rfl rfl ?_
              refine r_goto (t := 37) hk (dk_at D_Mach_run 38 rfl) (by decide) ?_
              exact ih c2 g2 t2 A2 mn2 ov2 dv2 dm2 nx2 why q2 qn2 o2 on2 ln2 m2 r2 p2 fc2 w (d + 1) _ (by omega) h hw3 (by omega) (fun z => by omega) (by omega) (by rw [← hr]; exact (congrArg (rn n _) (if_pos (by show why = -1 ∨ why = 0; omega))).symm)
  have mg : ∀ b : Bool, b = decide (0 ≤ z ∧ z ≤ 300) → V G K 3 (QE G K (fun rv ad' w' => rv = some (.int (i32 ((rn z.toNat (c, g, t, A, mn, ov, dv, dm, nx, fl, q, qn, o, on, ln, m, r, p, fc) 0).2 : Nat))) ∧ ad' = ad ∧ WW w0 ad w' (rn z.toNat (c, g, t, A, mn, ov, dv, dm, nx, fl, q, qn, o, on, ln, m, r, p, fc) 0).1 ∧ (0 ≤ z ∧ z ≤ 300) ∧ fl = -1) (fun C ad' w' => ad' = ad ∧ WW w0 ad w' (c, g, t, A, mn, ov, dv, dm, nx, fl, q, qn, o, on, ln, m, r, p, fc) ∧ ((C = "java/lang/IllegalArgumentException" ∧ ¬ (0 ≤ z ∧ z ≤ 300)) ∨ (C = "java/lang/IllegalStateException" ∧ (0 ≤ z ∧ z ≤ 300) ∧ fl ≠ -1))) 2 12) 0 0 16 [some (.ref (ad (0, 0))), some (.int (i32 z)), none] [.int (i32 (b2i b))] ad w := by
    intro b hb
    refine r_need hk hR ml_Mach_237 (dk_at D_Mach_run 8 rfl) (fun c_16 => ⟨rfl, h, Or.inl ⟨rfl, of_decide_eq_false (by rw [← hb]; exact c_16)⟩⟩) (fun c_16 => ?_)
    have hc : 0 ≤ z ∧ z ≤ 300 := of_decide_eq_true (by rw [← hb]; exact c_16)
    refine r_aload_n (i := 0) hk (dk_at D_Mach_run 9 rfl) rfl rfl ?_
    refine r_get hk fl_Mach_241 (dk_at D_Mach_run 10 rfl) ?_ (hw := h0)
    refine r_iconst hk (dk_at D_Mach_run 11 rfl) ?_
    refine r_icmp_eq (t := 35) hk (dk_at D_Mach_run 12 rfl) (by decide) (by omega) (by omega) (fun c_24 => ?_) (fun c_24 => ?_)
    · refine r_iconst hk (dk_at D_Mach_run 17 rfl) ?_
      refine r_istore_n (i := 2) (ls' := [_, _, _]) hk (dk_at D_Mach_run 18 rfl) rfl rfl rfl rfl ?_
      exact loop hc (by omega) z.toNat c g t A mn ov dv dm nx fl q qn o on ln m r p fc w 0 _ rfl h hw (by omega) (fun _ => by omega) (by omega) rfl
    · exact r_throw_ hk hR ex_ise (dk_at D_Mach_run 13 rfl) (dk_at D_Mach_run 14 rfl) (dk_at D_Mach_run 15 rfl) (dk_at D_Mach_run 16 rfl) ⟨rfl, h, Or.inr ⟨rfl, hc, by omega⟩⟩
  refine r_iload_n (i := 1) hk (dk_at D_Mach_run 0 rfl) rfl rfl ?_
  refine r_if_lt (t := 15) hk (dk_at D_Mach_run 1 rfl) (by decide) (by omega) (fun c_1 => ?_) (fun c_1 => ?_)
  · refine r_iconst hk (dk_at D_Mach_run 7 rfl) ?_
    exact mg false (decide_eq_false (by omega)).symm
  · refine r_iload_n (i := 1) hk (dk_at D_Mach_run 2 rfl) rfl rfl ?_
    refine r_sipush hk (dk_at D_Mach_run 3 rfl) (by decide) ?_
    refine r_icmp_gt (t := 15) hk (dk_at D_Mach_run 4 rfl) (by decide) (by omega) (by omega) (fun c_8 => ?_) (fun c_8 => ?_)
    · refine r_iconst hk (dk_at D_Mach_run 7 rfl) ?_
      exact mg false (decide_eq_false (by omega)).symm
    · refine r_iconst hk (dk_at D_Mach_run 5 rfl) ?_
      refine r_goto (t := 16) hk (dk_at D_Mach_run 6 rfl) (by decide) ?_
      exact mg true (decide_eq_true (by omega)).symm
