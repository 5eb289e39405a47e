/-! calls whose ends are told by a predicate of the world; null in locals -/
section CALLQ
variable {G : Gt} {K : Kt} {own : String} {cc : ByteArray} {nL : Nat} {ret : Option FieldType} {tb : List ExceptionTableEntry} {Q : State → Prop} {D C S cs ss pc q d : Nat} {ls : List (Option Value)} {st st0 As : List Value} {ad : Ix → Nat} {w : Wt} {y : MethodName} {cw : Cond} {maxL nA idx : Nat} {v : Value} {P : Wt → Prop}
theorem r_callVq {a ci : Nat} {i : Ix} {fs : List Value} (hk : Ok G K own cc nL ret tb) (hR : Rm K D C S) (hmi : Mi y cw maxL nA) (hs : Iv y) (hl : Lk own idx y) (hd : decode cc pc = .ok (.invokevirtual idx, 3) ∧ pc + 3 = q) (hM : Mt G y cw d 0 0 (.ref a :: As) ad w (fun rv ad' w' => rv = some v ∧ ad' = ad ∧ P w') noT) (kk : ∀ w', P w' → V G K nL Q cs ss q ls (v :: st) ad w')
    (he : st0 = As.reverse ++ .ref a :: st := by rfl) (ha : ad i = a := by rfl) (hw : w i = some (.inl (ci, fs)) := by first | rfl | assumption) (hci : cls[ci]?.map (fun r => r.1) = some y.cls := by rfl) (hA : As.length = nA := by rfl) (hst : Nat.ble (st.map fun v => v.category).sum 8 = true := by rfl) (hfr : Nat.blt d D = true := by rfl) (hce : Nat.ble cs C = true := by rfl) (hsl : Nat.ble ss S = true := by rfl) (hmx : Nat.ble maxL 15 = true := by rfl) : V G K nL Q cs ss pc ls st0 ad w :=
  r_callVp hk hR hmi hs hl hd hM (fun v' a' w'' hp => by obtain ⟨rfl, rfl, hp⟩ := hp; exact kk _ hp) VT_no he ha hw hci hA hst hfr hce hsl hmx
theorem r_callVqv {a ci : Nat} {i : Ix} {fs : List Value} (hk : Ok G K own cc nL ret tb) (hR : Rm K D C S) (hmi : Mi y cw maxL nA) (hs : Iv y) (hl : Lk own idx y) (hd : decode cc pc = .ok (.invokevirtual idx, 3) ∧ pc + 3 = q) (hM : Mt G y cw d 0 0 (.ref a :: As) ad w (fun rv ad' w' => rv = none ∧ ad' = ad ∧ P w') noT) (kk : ∀ w', P w' → V G K nL Q cs ss q ls st ad w')
    (he : st0 = As.reverse ++ .ref a :: st := by rfl) (ha : ad i = a := by rfl) (hw : w i = some (.inl (ci, fs)) := by first | rfl | assumption) (hci : cls[ci]?.map (fun r => r.1) = some y.cls := by rfl) (hA : As.length = nA := by rfl) (hst : Nat.ble (st.map fun v => v.category).sum 8 = true := by rfl) (hfr : Nat.blt d D = true := by rfl) (hce : Nat.ble cs C = true := by rfl) (hsl : Nat.ble ss S = true := by rfl) (hmx : Nat.ble maxL 15 = true := by rfl) : V G K nL Q cs ss pc ls st0 ad w :=
  r_callVp hk hR hmi hs hl hd hM (fun v' a' w'' hp => by obtain ⟨rfl, rfl, hp⟩ := hp; exact kk _ hp) VT_no he ha hw hci hA hst hfr hce hsl hmx
theorem r_callSq (hk : Ok G K own cc nL ret tb) (hR : Rm K D C S) (hmi : Mi y cw maxL nA) (hs : Cond.static y ∈ tw) (hl : Lk own idx y) (hd : decode cc pc = .ok (.invokestatic idx, 3) ∧ pc + 3 = q) (hM : Mt G y cw d 0 0 As ad w (fun rv ad' w' => rv = some v ∧ ad' = ad ∧ P w') noT) (kk : ∀ w', P w' → V G K nL Q cs ss q ls (v :: st) ad w')
    (he : st0 = As.reverse ++ st := by rfl) (hA : As.length = nA := by rfl) (hst : Nat.ble (st.map fun v => v.category).sum 8 = true := by rfl) (hfr : Nat.blt d D = true := by rfl) (hce : Nat.ble cs C = true := by rfl) (hsl : Nat.ble ss S = true := by rfl) (hmx : Nat.ble maxL 15 = true := by rfl) : V G K nL Q cs ss pc ls st0 ad w :=
  r_callSp hk hR hmi hs hl hd hM (fun v' a' w'' hp => by obtain ⟨rfl, rfl, hp⟩ := hp; exact kk _ hp) VT_no he hA hst hfr hce hsl hmx
theorem r_callSqv (hk : Ok G K own cc nL ret tb) (hR : Rm K D C S) (hmi : Mi y cw maxL nA) (hs : Cond.static y ∈ tw) (hl : Lk own idx y) (hd : decode cc pc = .ok (.invokestatic idx, 3) ∧ pc + 3 = q) (hM : Mt G y cw d 0 0 As ad w (fun rv ad' w' => rv = none ∧ ad' = ad ∧ P w') noT) (kk : ∀ w', P w' → V G K nL Q cs ss q ls st ad w')
    (he : st0 = As.reverse ++ st := by rfl) (hA : As.length = nA := by rfl) (hst : Nat.ble (st.map fun v => v.category).sum 8 = true := by rfl) (hfr : Nat.blt d D = true := by rfl) (hce : Nat.ble cs C = true := by rfl) (hsl : Nat.ble ss S = true := by rfl) (hmx : Nat.ble maxL 15 = true := by rfl) : V G K nL Q cs ss pc ls st0 ad w :=
  r_callSp hk hR hmi hs hl hd hM (fun v' a' w'' hp => by obtain ⟨rfl, rfl, hp⟩ := hp; exact kk _ hp) VT_no he hA hst hfr hce hsl hmx
theorem r_astoreN {i : Nat} {ls' : List (Option Value)} (hk : Ok G K own cc nL ret tb) (hd : decode cc pc = .ok (.astore i, 2) ∧ pc + 2 = q) (hp : okp ls i = true) (hn : Nat.blt i nL = true) (hl : ls.set i (some .null) = ls') (kk : V G K nL Q cs ss q ls' st ad w) : V G K nL Q cs ss pc ls (.null :: st) ad w := by
  obtain ⟨hd, rfl⟩ := hd
  subst hl
  intro H locs la h1 h2 h3
  exact lv_astoreN hk.1 hk.2.1 hd h3.has (Nat.blt_eq.mp hn) rfl (fun la' h' => kk H locs la' h1 h2 (lvo.st1 h' hp))
theorem r_aloadN {i : Nat} (hk : Ok G K own cc nL ret tb) (hd : decode cc pc = .ok (.aload i, 2) ∧ pc + 2 = q) (hl : ls[i]? = some (some .null)) (kk : V G K nL Q cs ss q ls (.null :: st) ad w) : V G K nL Q cs ss pc ls st ad w := by
  obtain ⟨hd, rfl⟩ := hd
  intro H locs la h1 h2 h3
  exact lv_aloadN hk.1 hk.2.1 hd (h3.2.2 _ _ hl) (kk H locs la h1 h2 h3)
end CALLQ
/-! DrumMachine: access, step -/
def acx (k op a : Nat) : St → St × Int
  | (c, g, t, A, mn, ov, dv, dm, nx, fl, q, qn, o, on, ln, m, r, p, fc) => if a < 200 then (if rds k = true ∧ vld (c a) = false then ((c, g, comeT a t, A, mn, ov, dv, dm, nx, fl, q, qn, o, on, ln, m, r, p, fc), 1) else if k = 8 then ((fu_ c a (cdv (stD op A dv)), fu_ g a (stM op mn dm), comeT a t, A, mn, ov, stD op A dv, stM op mn dm, nx, fl, q, qn, o, on, ln, m, r, p, fc), -1) else if k = 9 then rdc a (c, g, comeT a t, A, mn, ov, dv, dm, nx, fl, q, qn, o, on, ln, m, r, p, fc) else if k = 7 then ((c, g, (lk c dv (50 - a % 50) a (comeT a t) false).1, lkA (lk c dv (50 - a % 50) a (comeT a t) false) A, mn, ov, dv, dm, nx, fl, q, qn, o, on, ln, m, r, p, fc), (lk c dv (50 - a % 50) a (comeT a t) false).2.1) else wrk k op (val (c a)) (g a) (c, g, comeT a t, A, mn, ov, dv, dm, nx, fl, q, qn, o, on, ln, m, r, p, fc)) else ((c, g, t, A, mn, ov, dv, dm, nx, fl, q, qn, o, on, ln, m, r, p, fc), 2)
theorem c_Mach_access (G : Gt) {w0 w : Wt} {ad : Ix → Nat} {c : Nat → Nat → Nat} {g : Nat → Bool} {t : Nat} {A : Nat} {mn : Bool} {ov : Bool} {dv : Nat} {dm : Bool} {nx : Nat} {fl : Int} {q : Nat → Nat × Bool} {qn : Nat} {o : Nat → Nat × Bool} {on : Nat} {ln : Nat → Int × Int × Int × Int} {m : Nat} {r : Nat → Bool} {p : Nat → Int} {fc : Nat} {k op a : Nat} (h : WW w0 ad w (c, g, t, A, mn, ov, dv, dm, nx, fl, q, qn, o, on, ln, m, r, p, fc)) (hw : wf (c, g, t, A, mn, ov, dv, dm, nx, fl, q, qn, o, on, ln, m, r, p, fc)) (ht : t < 1000000000000) (hop : op < 100) (ha9 : a < 10000) (hk9 : 2 ≤ k ∧ k ≤ 10) : Mt G y_Mach_access w_Mach_access 4 0 0 [.ref (ad (0, 0)), .ref (G.2.2.2.1 k), .int (i32 op), .int (i32 a)] ad w (fun rv ad' w' => rv = some (.int (i32 (acx k op a (c, g, t, A, mn, ov, dv, dm, nx, fl, q, qn, o, on, ln, m, r, p, fc)).2)) ∧ ad' = ad ∧ WW w0 ad w' (acx k op a (c, g, t, A, mn, ov, dv, dm, nx, fl, q, qn, o, on, ln, m, r, p, fc)).1) noT := by
  obtain ⟨hc, hA, hdv, hnx, hfl, hq, hqn, ho, hon, hln, hm, hp, hfc⟩ := hw
  refine Mt.to [some (.ref (ad (0, 0))), some (.ref (G.2.2.2.1 k)), some (.int (i32 op)), some (.int (i32 a))] (fun K hk hR hin => ?_)
  have h0 := h.m0
  by_cases ha : a < 200
  · have eA : isA (a : Int) = true := isA_t.mpr (by omega)
    have eR : acx k op a (c, g, t, A, mn, ov, dv, dm, nx, fl, q, qn, o, on, ln, m, r, p, fc) = (if rds k = true ∧ vld (c a) = false then ((c, g, comeT a t, A, mn, ov, dv, dm, nx, fl, q, qn, o, on, ln, m, r, p, fc), 1) else if k = 8 then ((fu_ c a (cdv (stD op A dv)), fu_ g a (stM op mn dm), comeT a t, A, mn, ov, stD op A dv, stM op mn dm, nx, fl, q, qn, o, on, ln, m, r, p, fc), -1) else if k = 9 then rdc a (c, g, comeT a t, A, mn, ov, dv, dm, nx, fl, q, qn, o, on, ln, m, r, p, fc) else if k = 7 then ((c, g, (lk c dv (50 - a % 50) a (comeT a t) false).1, lkA (lk c dv (50 - a % 50) a (comeT a t) false) A, mn, ov, dv, dm, nx, fl, q, qn, o, on, ln, m, r, p, fc), (lk c dv (50 - a % 50) a (comeT a t) false).2.1) else wrk k op (val (c a)) (g a) (c, g, comeT a t, A, mn, ov, dv, dm, nx, fl, q, qn, o, on, ln, m, r, p, fc)) := if_pos ha
    rw [eR]
    have d56 : ∀ w : Wt, WW w0 ad w (c, g, comeT a t, A, mn, ov, dv, dm, nx, fl, q, qn, o, on, ln, m, r, p, fc) → (rds k = true → vld (c a) = true ∧ tW ad w (14, 0) (15, 0) (val (c a)) (g a)) → V G K 4 (QE G K (fun rv ad' w' => rv = some (.int (i32 (if rds k = true ∧ vld (c a) = false then ((c, g, comeT a t, A, mn, ov, dv, dm, nx, fl, q, qn, o, on, ln, m, r, p, fc), 1) else if k = 8 then ((fu_ c a (cdv (stD op A dv)), fu_ g a (stM op mn dm), comeT a t, A, mn, ov, stD op A dv, stM op mn dm, nx, fl, q, qn, o, on, ln, m, r, p, fc), -1) else if k = 9 then rdc a (c, g, comeT a t, A, mn, ov, dv, dm, nx, fl, q, qn, o, on, ln, m, r, p, fc) else if k = 7 then ((c, g, (lk c dv (50 - a % 50) a (comeT a t) false).1, lkA (lk c dv (50 - a % 50) a (comeT a t) false) A, mn, ov, dv, dm, nx, fl, q, qn, o, on, ln, m, r, p, fc), (lk c dv (50 - a % 50) a (comeT a t) false).2.1) else wrk k op (val (c a)) (g a) (c, g, comeT a t, A, mn, ov, dv, dm, nx, fl, q, qn, o, on, ln, m, r, p, fc) : St × Int).2)) ∧ ad' = ad ∧ WW w0 ad w' (if rds k = true ∧ vld (c a) = false then ((c, g, comeT a t, A, mn, ov, dv, dm, nx, fl, q, qn, o, on, ln, m, r, p, fc), 1) else if k = 8 then ((fu_ c a (cdv (stD op A dv)), fu_ g a (stM op mn dm), comeT a t, A, mn, ov, stD op A dv, stM op mn dm, nx, fl, q, qn, o, on, ln, m, r, p, fc), -1) else if k = 9 then rdc a (c, g, comeT a t, A, mn, ov, dv, dm, nx, fl, q, qn, o, on, ln, m, r, p, fc) else if k = 7 then ((c, g, (lk c dv (50 - a % 50) a (comeT a t) false).1, lkA (lk c dv (50 - a % 50) a (comeT a t) false) A, mn, ov, dv, dm, nx, fl, q, qn, o, on, ln, m, r, p, fc), (lk c dv (50 - a % 50) a (comeT a t) false).2.1) else wrk k op (val (c a)) (g a) (c, g, comeT a t, A, mn, ov, dv, dm, nx, fl, q, qn, o, on, ln, m, r, p, fc) : St × Int).1) noT 0 0) 0 0 56 [some (.ref (ad (0, 0))), some (.ref (G.2.2.2.1 k)), some (.int (i32 op)), some (.int (i32 a))] [] ad w := by
      intro w h hrd
      have h0 := h.m0
      rw [if_neg (fun z => by have := (hrd z.1).1; rw [z.2] at this; cases this)]
      refine r_aload_n (i := 1) hk (dk_at D_Mach_access 28 rfl) rfl rfl ?_
      refine r_ord hk hR (dk_at D_Mach_access 29 rfl) (by omega) ?_
      by_cases e8 : k = 8
      · rw [if_pos e8]
        refine r_tableIn (t := 88) (off := 28) hk (dk_at D_Mach_access 30 rfl) (by omega) (by omega) (by omega) (by subst e8; rfl) (by decide) ?_
        refine r_aload_n (i := 0) hk (dk_at D_Mach_access 31 rfl) rfl rfl ?_
        refine r_iload_n (i := 2) hk (dk_at D_Mach_access 32 rfl) rfl rfl ?_
        refine r_iload_n (i := 3) hk (dk_at D_Mach_access 33 rfl) rfl rfl ?_
        refine r_callVq hk hR m_Mach_store s_Mach_store ml_Mach_193 (dk_at D_Mach_access 34 rfl) (c_Mach_store G h hop ha) (fun w h => ?_) (i := (0, 0)) (hw := h0)
        exact r_iret hk (dk_at D_Mach_access 35 rfl) ⟨rfl, rfl, h⟩
      rw [if_neg e8]
      by_cases e9 : k = 9
      · rw [if_pos e9]
        refine r_tableIn (t := 95) (off := 35) hk (dk_at D_Mach_access 30 rfl) (by omega) (by omega) (by omega) (by subst e9; rfl) (by decide) ?_
        refine r_aload_n (i := 0) hk (dk_at D_Mach_access 36 rfl) rfl rfl ?_
        refine r_iload_n (i := 3) hk (dk_at D_Mach_access 37 rfl) rfl rfl ?_
        refine r_callVq hk hR m_Mach_readCard s_Mach_readCard ml_Mach_196 (dk_at D_Mach_access 38 rfl) (c_Mach_readCard G h ha hfc hqn) (fun w h => ?_) (i := (0, 0)) (hw := h0)
        exact r_iret hk (dk_at D_Mach_access 39 rfl) ⟨rfl, rfl, h⟩
      rw [if_neg e9]
      by_cases e7 : k = 7
      · rw [if_pos e7]
        refine r_tableIn (t := 101) (off := 41) hk (dk_at D_Mach_access 30 rfl) (by omega) (by omega) (by omega) (by subst e7; rfl) (by decide) ?_
        refine r_aload_n (i := 0) hk (dk_at D_Mach_access 40 rfl) rfl rfl ?_
        refine r_iload_n (i := 3) hk (dk_at D_Mach_access 41 rfl) rfl rfl ?_
        refine r_callVq hk hR m_Mach_look s_Mach_look ml_Mach_200 (dk_at D_Mach_access 42 rfl) (c_Mach_look G h hc hdv ha rfl) (fun w h => ?_) (i := (0, 0)) (hw := h0)
        exact r_iret hk (dk_at D_Mach_access 43 rfl) ⟨rfl, rfl, h⟩
      rw [if_neg e7]
      have hr : rds k = true := by
        have : k = 2 ∨ k = 3 ∨ k = 4 ∨ k = 5 ∨ k = 6 ∨ k = 10 := by omega
        rcases this with e | e | e | e | e | e <;> subst e <;> rfl
      refine r_tableOut (t := 107) hk (dk_at D_Mach_access 30 rfl) (by omega) (by omega) (by decide) ?_
      refine r_aload_n (i := 0) hk (dk_at D_Mach_access 44 rfl) rfl rfl ?_
      refine r_aload_n (i := 1) hk (dk_at D_Mach_access 45 rfl) rfl rfl ?_
      refine r_iload_n (i := 2) hk (dk_at D_Mach_access 46 rfl) rfl rfl ?_
      refine r_callVq hk hR m_Mach_work s_Mach_work ml_Mach_203 (dk_at D_Mach_access 47 rfl) (c_Mach_work G (k := k) (op := op) h (hrd hr).2 (val_lt _) hA hon hop (by omega)) (fun w h => ?_) (i := (0, 0)) (hw := h0)
      exact r_iret hk (dk_at D_Mach_access 48 rfl) ⟨rfl, rfl, h⟩
    refine r_iload_n (i := 3) hk (dk_at D_Mach_access 0 rfl) rfl rfl ?_
    refine r_callS hk hR m_Mach_isAddress s_Mach_isAddress ml_Mach_184 (dk_at D_Mach_access 1 rfl) (c_Mach_isAddress G (z := (a : Int)) (by omega)) ?_
    refine r_if_neB (t := 9) hk (dk_at D_Mach_access 2 rfl) (by decide) (fun c_4 => ?_) (fun c_4 => ?_)
    · refine r_aload_n (i := 0) hk (dk_at D_Mach_access 5 rfl) rfl rfl ?_
      refine r_get hk fl_Mach_62 (dk_at D_Mach_access 6 rfl) ?_ (hw := h0)
      refine r_iload_n (i := 3) hk (dk_at D_Mach_access 7 rfl) rfl rfl ?_
      refine r_callVv hk hR m_Drum_come s_Drum_come ml_Mach_187 (dk_at D_Mach_access 8 rfl) (c_Drum_come G h.d1 ha ht) ?_ (i := (1, 0)) (hw := h.d1)
      refine r_gp (fun w => WW w0 ad w (c, g, comeT a t, A, mn, ov, dv, dm, nx, fl, q, qn, o, on, ln, m, r, p, fc)) h.time (fun w h => ?_)
      have h0 := h.m0
      refine r_aload_n (i := 1) hk (dk_at D_Mach_access 9 rfl) rfl rfl ?_
      refine r_callS hk hR m_Mach_reads s_Mach_reads ml_Mach_190 (dk_at D_Mach_access 10 rfl) (c_Mach_reads G (k := k) (by omega)) ?_
      refine r_if_eqB (t := 37) hk (dk_at D_Mach_access 11 rfl) (by decide) (fun c_21 => ?_) (fun c_21 => ?_)
      · refine r_aload_n (i := 1) hk (dk_at D_Mach_access 19 rfl) rfl rfl ?_
        refine r_callS hk hR m_Mach_reads s_Mach_reads ml_Mach_190 (dk_at D_Mach_access 20 rfl) (c_Mach_reads G (k := k) (by omega)) ?_
        refine r_if_eqB (t := 56) hk (dk_at D_Mach_access 21 rfl) (by decide) (fun c_41 => ?_) (fun c_41 => ?_)
        · exact d56 w h (fun z => by rw [c_21] at z; cases z)
        · rw [c_21] at c_41; cases c_41
      · refine r_aload_n (i := 0) hk (dk_at D_Mach_access 12 rfl) rfl rfl ?_
        refine r_get hk fl_Mach_62 (dk_at D_Mach_access 13 rfl) ?_ (hw := h0)
        refine r_iload_n (i := 3) hk (dk_at D_Mach_access 14 rfl) rfl rfl ?_
        refine r_callV hk hR m_Drum_isValid s_Drum_isValid ml_Mach_147 (dk_at D_Mach_access 15 rfl) (c_Drum_isValid G h.d1 h.d2 (h.d3 ha) ha (fun k _ => hc a k)) ?_ (i := (1, 0)) (hw := h.d1)
        refine r_if_neB (t := 37) hk (dk_at D_Mach_access 16 rfl) (by decide) (fun c_32 => ?_) (fun c_32 => ?_)
        · refine r_aload_n (i := 1) hk (dk_at D_Mach_access 19 rfl) rfl rfl ?_
          refine r_callS hk hR m_Mach_reads s_Mach_reads ml_Mach_190 (dk_at D_Mach_access 20 rfl) (c_Mach_reads G (k := k) (by omega)) ?_
          refine r_if_eqB (t := 56) hk (dk_at D_Mach_access 21 rfl) (by decide) (fun c_41 => ?_) (fun c_41 => ?_)
          · rw [c_21] at c_41; cases c_41
          · obtain ⟨x14, f14, e14, e15⟩ := h.s14
            refine r_aload_n (i := 0) hk (dk_at D_Mach_access 22 rfl) rfl rfl ?_
            refine r_get hk fl_Mach_62 (dk_at D_Mach_access 23 rfl) ?_ (hw := h0)
            refine r_iload_n (i := 3) hk (dk_at D_Mach_access 24 rfl) rfl rfl ?_
            refine r_aload_n (i := 0) hk (dk_at D_Mach_access 25 rfl) rfl rfl ?_
            refine r_get hk fl_Mach_83 (dk_at D_Mach_access 26 rfl) ?_ (hw := h0)
            refine r_callVv hk hR m_Drum_fetch s_Drum_fetch ml_Mach_151 (dk_at D_Mach_access 27 rfl) (c_Drum_fetch G h.d1 h.d2 (h.d3 ha) ha (fun k _ => hc a k) c_32 e14 e15) ?_ (i := (1, 0)) (hw := h.d1)
            exact d56 _ h.read (fun _ => ⟨c_32, up_s, (up_n (by intro e; cases e)).trans up_s⟩)
        · rw [if_pos ⟨c_21, c_32⟩]
          refine r_iconst hk (dk_at D_Mach_access 17 rfl) ?_
          exact r_iret hk (dk_at D_Mach_access 18 rfl) ⟨rfl, rfl, h⟩
    · rw [eA] at c_4; cases c_4
  · have eA : isA (a : Int) = false := isA_f.mpr (by omega)
    have eR : acx k op a (c, g, t, A, mn, ov, dv, dm, nx, fl, q, qn, o, on, ln, m, r, p, fc) = ((c, g, t, A, mn, ov, dv, dm, nx, fl, q, qn, o, on, ln, m, r, p, fc), 2) := if_neg ha
    rw [eR]
    refine r_iload_n (i := 3) hk (dk_at D_Mach_access 0 rfl) rfl rfl ?_
    refine r_callS hk hR m_Mach_isAddress s_Mach_isAddress ml_Mach_184 (dk_at D_Mach_access 1 rfl) (c_Mach_isAddress G (z := (a : Int)) (by omega)) ?_
    refine r_if_neB (t := 9) hk (dk_at D_Mach_access 2 rfl) (by decide) (fun c_4 => ?_) (fun c_4 => ?_)
    · rw [eA] at c_4; cases c_4
    · refine r_iconst hk (dk_at D_Mach_access 3 rfl) ?_
      exact r_iret hk (dk_at D_Mach_access 4 rfl) ⟨rfl, rfl, h⟩
theorem lk_r (c : Nat → Nat → Nat) (dv : Nat) : ∀ n a t b, (-1 ≤ (lk c dv n a t b).2.1 ∧ (lk c dv n a t b).2.1 ≤ 5) ∧ (lk c dv n a t b).1 ≤ t + n ∧ ((lk c dv n a t b).2.1 = -1 → (lk c dv n a t b).2.2 < a + n)
  | 0, a, t, b => ⟨show (-1 : Int) ≤ 5 ∧ (5 : Int) ≤ 5 from by decide, Nat.le_refl _, fun h => absurd h (show ¬ ((5 : Int) = -1) by decide)⟩
  | n + 1, a, t, b => by
    have hb : (cond b 1 0 : Nat) ≤ 1 := by cases b <;> decide
    unfold lk
    by_cases h1 : vld (c a) = true
    · rw [if_pos h1]
      by_cases h2 : val (c a) < dv
      · rw [if_pos h2]
        obtain ⟨i1, i2, i3⟩ := lk_r c dv n (a + 1) (t + cond b 1 0) true
        exact ⟨i1, by omega, fun h => by have := i3 h; omega⟩
      · rw [if_neg h2]
        exact ⟨show (-1 : Int) ≤ -1 ∧ (-1 : Int) ≤ 5 from by decide, by show t + cond b 1 0 ≤ t + (n + 1); omega, fun _ => by show a < a + (n + 1); omega⟩
    · rw [if_neg h1]
      exact ⟨show (-1 : Int) ≤ 1 ∧ (1 : Int) ≤ 5 from by decide, by show t + cond b 1 0 ≤ t + (n + 1); omega, fun h => absurd h (show ¬ ((1 : Int) = -1) by decide)⟩
theorem comeT_le (a t : Nat) : comeT a t ≤ t + 50 := by unfold comeT; have := Nat.mod_lt (a % 50 + 50 - t % 50) (show 0 < 50 by decide); omega
theorem cdv_lt (v k : Nat) : cdv v k < 128 := cod_lt _ (dgt_lt v k)
theorem fu_lt {c : Nat → Nat → Nat} (h : ∀ a k, c a k < 128) (b v : Nat) : ∀ a k, fu_ c b (cdv v) a k < 128 := fun a k => by
  unfold fu_
  split
  · exact cdv_lt v k
  · exact h a k
/-- what a step's part keeps: the state is well-formed, why is a code, the time is bounded -/
def Kp (σ : St) (R : St × Int) (n : Nat) : Prop := wf R.1 ∧ (-1 ≤ R.2 ∧ R.2 ≤ 5) ∧ R.1.2.2.1 ≤ σ.2.2.1 + n
theorem wrk_kp {k op v : Nat} {sg : Bool} {c : Nat → Nat → Nat} {g : Nat → Bool} {t : Nat} {A : Nat} {mn : Bool} {ov : Bool} {dv : Nat} {dm : Bool} {nx : Nat} {fl : Int} {q : Nat → Nat × Bool} {qn : Nat} {o : Nat → Nat × Bool} {on : Nat} {ln : Nat → Int × Int × Int × Int} {m : Nat} {r : Nat → Bool} {p : Nat → Int} {fc : Nat} (hw : wf (c, g, t, A, mn, ov, dv, dm, nx, fl, q, qn, o, on, ln, m, r, p, fc)) (hv : v < 10 ^ 10) : Kp (c, g, t, A, mn, ov, dv, dm, nx, fl, q, qn, o, on, ln, m, r, p, fc) (wrk k op v sg (c, g, t, A, mn, ov, dv, dm, nx, fl, q, qn, o, on, ln, m, r, p, fc)) 200 := by
  obtain ⟨hc, hA, hdv, hnx, hfl, hq, hqn, ho, hon, hln, hm, hp, hfc⟩ := hw
  show Kp _ (ite _ _ _) _
  by_cases c1 : k = 2 ∨ k = 3
  · rw [if_pos c1]
    refine ⟨⟨hc, ?_, hv, hnx, hfl, hq, hqn, ho, hon, hln, hm, hp, hfc⟩, (show (-1 : Int) ≤ -1 ∧ (-1 : Int) ≤ 5 from by decide), by show t + 2 ≤ t + 200; omega⟩
    refine adA_lt (by unfold wkA0; split <;> omega) ?_
    have : 10 ^ wkP op ≤ 10 ^ 10 := p_le (by unfold wkP; split <;> omega)
    have := Nat.mul_le_mul_left v this
    omega
  rw [if_neg c1]
  by_cases c2 : k = 5
  · rw [if_pos c2]
    have := ds_le (A / 10 ^ 10) 10
    refine ⟨⟨hc, ?_, hv, hnx, hfl, hq, hqn, ho, hon, hln, hm, hp, hfc⟩, (show (-1 : Int) ≤ -1 ∧ (-1 : Int) ≤ 5 from by decide), by show t + (20 + 2 * ds (A / 10 ^ 10) 10) ≤ t + 200; omega⟩
    have h1 : A / 10 ^ 10 < 10 ^ 10 := by omega
    have := mul_lt h1 hv
    omega
  rw [if_neg c2]
  by_cases c3 : k = 6
  · rw [if_pos c3]
    by_cases c4 : A / 10 ^ 10 < v
    · rw [if_pos c4]
      have := ds_le (A / v) 10
      refine ⟨⟨hc, ?_, hv, hnx, hfl, hq, hqn, ho, hon, hln, hm, hp, hfc⟩, (show (-1 : Int) ≤ -1 ∧ (-1 : Int) ≤ 5 from by decide), by show t + (20 + 2 * ds (A / v) 10) ≤ t + 200; omega⟩
      have h1 : A % v < v := Nat.mod_lt _ (by omega)
      have h2 : A / v < 10 ^ 10 := by
        rw [Nat.div_lt_iff_lt_mul (by omega)]
        have := Nat.mul_le_mul_right (10 ^ 10) c4
        have h3 := Nat.div_add_mod A (10 ^ 10)
        have h4 := Nat.mod_lt A (show 0 < 10 ^ 10 by decide)
        rw [Nat.succ_mul, Nat.mul_comm] at this
        rw [Nat.mul_comm]
        omega
      omega
    · rw [if_neg c4]
      exact ⟨⟨hc, hA, hdv, hnx, hfl, hq, hqn, ho, hon, hln, hm, hp, hfc⟩, (show (-1 : Int) ≤ 3 ∧ (3 : Int) ≤ 5 from by decide), Nat.le_add_right _ _⟩
  rw [if_neg c3]
  by_cases c5 : k = 10
  · rw [if_pos c5]
    by_cases c6 : on = 40
    · rw [if_pos c6]
      exact ⟨⟨hc, hA, hdv, hnx, hfl, hq, hqn, ho, hon, hln, hm, hp, hfc⟩, (show (-1 : Int) ≤ 4 ∧ (4 : Int) ≤ 5 from by decide), Nat.le_add_right _ _⟩
    · rw [if_neg c6]
      exact ⟨⟨hc, hA, hv, hnx, hfl, hq, hqn, fun k => by unfold fu_; split; exact hv; exact ho k, by omega, hln, hm, hp, hfc⟩, (show (-1 : Int) ≤ -1 ∧ (-1 : Int) ≤ 5 from by decide), by show t + 10 ≤ t + 200; omega⟩
  rw [if_neg c5]
  exact ⟨⟨hc, hA, hv, hnx, hfl, hq, hqn, ho, hon, hln, hm, hp, hfc⟩, (show (-1 : Int) ≤ -1 ∧ (-1 : Int) ≤ 5 from by decide), Nat.le_add_right _ _⟩
theorem stD_lt {op A dv : Nat} (hA : A < 10 ^ 20) (hdv : dv < 10 ^ 10) : stD op A dv < 10 ^ 10 := by
  unfold stD
  split
  · exact sad_lt hdv (Nat.mod_lt _ (by decide))
  · split
    · exact hdv
    · split <;> omega
theorem sad_lt20 {A a : Nat} (hA : A < 10 ^ 20) (ha : a < 10000) : sad A a < 10 ^ 20 := by unfold sad; omega
theorem rdc_kp {a : Nat} {c : Nat → Nat → Nat} {g : Nat → Bool} {t : Nat} {A : Nat} {mn : Bool} {ov : Bool} {dv : Nat} {dm : Bool} {nx : Nat} {fl : Int} {q : Nat → Nat × Bool} {qn : Nat} {o : Nat → Nat × Bool} {on : Nat} {ln : Nat → Int × Int × Int × Int} {m : Nat} {r : Nat → Bool} {p : Nat → Int} {fc : Nat} (hw : wf (c, g, t, A, mn, ov, dv, dm, nx, fl, q, qn, o, on, ln, m, r, p, fc)) : Kp (c, g, t, A, mn, ov, dv, dm, nx, fl, q, qn, o, on, ln, m, r, p, fc) (rdc a (c, g, t, A, mn, ov, dv, dm, nx, fl, q, qn, o, on, ln, m, r, p, fc)) 10 := by
  obtain ⟨hc, hA, hdv, hnx, hfl, hq, hqn, ho, hon, hln, hm, hp, hfc⟩ := hw
  show Kp _ (ite _ _ _) _
  by_cases c1 : qn = 0
  · rw [if_pos c1]; exact ⟨⟨hc, hA, hdv, hnx, hfl, hq, hqn, ho, hon, hln, hm, hp, hfc⟩, (show (-1 : Int) ≤ 4 ∧ (4 : Int) ≤ 5 from by decide), Nat.le_add_right _ _⟩
  · rw [if_neg c1]
    exact ⟨⟨fu_lt hc _ _, hA, hdv, hnx, hfl, fun k => hq (k + 1), by omega, ho, hon, hln, hm, hp, Nat.mod_lt _ (by decide)⟩, (show (-1 : Int) ≤ -1 ∧ (-1 : Int) ≤ 5 from by decide), Nat.le_refl _⟩
theorem acx_kp {k op a : Nat} {c : Nat → Nat → Nat} {g : Nat → Bool} {t : Nat} {A : Nat} {mn : Bool} {ov : Bool} {dv : Nat} {dm : Bool} {nx : Nat} {fl : Int} {q : Nat → Nat × Bool} {qn : Nat} {o : Nat → Nat × Bool} {on : Nat} {ln : Nat → Int × Int × Int × Int} {m : Nat} {r : Nat → Bool} {p : Nat → Int} {fc : Nat} (hw : wf (c, g, t, A, mn, ov, dv, dm, nx, fl, q, qn, o, on, ln, m, r, p, fc)) : Kp (c, g, t, A, mn, ov, dv, dm, nx, fl, q, qn, o, on, ln, m, r, p, fc) (acx k op a (c, g, t, A, mn, ov, dv, dm, nx, fl, q, qn, o, on, ln, m, r, p, fc)) 250 := by
  have hw0 := hw
  obtain ⟨hc, hA, hdv, hnx, hfl, hq, hqn, ho, hon, hln, hm, hp, hfc⟩ := hw
  have hct := comeT_le a t
  show Kp _ (ite _ _ _) _
  by_cases c0 : a < 200
  case neg => rw [if_neg c0]; exact ⟨hw0, (show (-1 : Int) ≤ 2 ∧ (2 : Int) ≤ 5 from by decide), Nat.le_add_right _ _⟩
  rw [if_pos c0]
  by_cases c1 : rds k = true ∧ vld (c a) = false
  · rw [if_pos c1]; exact ⟨⟨hc, hA, hdv, hnx, hfl, hq, hqn, ho, hon, hln, hm, hp, hfc⟩, (show (-1 : Int) ≤ 1 ∧ (1 : Int) ≤ 5 from by decide), by show comeT a t ≤ t + 250; omega⟩
  rw [if_neg c1]
  by_cases c2 : k = 8
  · rw [if_pos c2]; exact ⟨⟨fu_lt hc _ _, hA, stD_lt hA hdv, hnx, hfl, hq, hqn, ho, hon, hln, hm, hp, hfc⟩, (show (-1 : Int) ≤ -1 ∧ (-1 : Int) ≤ 5 from by decide), by show comeT a t ≤ t + 250; omega⟩
  rw [if_neg c2]
  by_cases c3 : k = 9
  · rw [if_pos c3]
    obtain ⟨k1, k2, k3⟩ := rdc_kp (a := a) (t := comeT a t) (c := c) (g := g) (A := A) (mn := mn) (ov := ov) (dv := dv) (dm := dm) (nx := nx) (fl := fl) (q := q) (qn := qn) (o := o) (on := on) (ln := ln) (m := m) (r := r) (p := p) (fc := fc) hw0
    exact ⟨k1, k2, Nat.le_trans k3 (by show comeT a t + 10 ≤ t + 250; omega)⟩
  rw [if_neg c3]
  by_cases c4 : k = 7
  · rw [if_pos c4]
    obtain ⟨k1, k2, k3⟩ := lk_r c dv (50 - a % 50) a (comeT a t) false
    refine ⟨⟨hc, ?_, hdv, hnx, hfl, hq, hqn, ho, hon, hln, hm, hp, hfc⟩, k1, by show (lk c dv (50 - a % 50) a (comeT a t) false).1 ≤ t + 250; omega⟩
    unfold lkA
    split
    · rename_i h; exact sad_lt20 hA (by have := k3 h; omega)
    · exact hA
  rw [if_neg c4]
  obtain ⟨k1, k2, k3⟩ := wrk_kp (k := k) (op := op) (v := val (c a)) (sg := g a) (t := comeT a t) (c := c) (g := g) (A := A) (mn := mn) (ov := ov) (dv := dv) (dm := dm) (nx := nx) (fl := fl) (q := q) (qn := qn) (o := o) (on := on) (ln := ln) (m := m) (r := r) (p := p) (fc := fc) hw0 (val_lt _)
  exact ⟨k1, k2, Nat.le_trans k3 (by show comeT a t + 200 ≤ t + 250; omega)⟩
def setNx (n : Nat) : St → St
  | (c, g, t, A, mn, ov, dv, dm, nx, fl, q, qn, o, on, ln, m, r, p, fc) => (c, g, t, A, mn, ov, dv, dm, n, fl, q, qn, o, on, ln, m, r, p, fc)
def stR (th : Nat) (R : St × Int) : St × Int := if R.2 = -1 then (setNx th R.1, -1) else R
def stq : Option Nat → Nat → Nat → Nat → St → St × Int
  | none, _, _, _, σ => (σ, 2)
  | some k, op, d, th, (c, g, t, A, mn, ov, dv, dm, nx, fl, q, qn, o, on, ln, m, r, p, fc) => if acs k = true then stR th (acx k op d (c, g, t, A, mn, ov, dv, dm, nx, fl, q, qn, o, on, ln, m, r, p, fc)) else ((c, g, if k = 11 then t + tks 11 op d else t, if k = 11 then shA op d A else A, mn, if k = 12 then brO op ov else ov, dv, dm, if k = 12 ∧ brB op A mn ov dv = true then d else th, fl, q, qn, o, on, ln, m, r, p, fc), if k = 1 then 0 else -1)
def stp : St → St × Int
  | (c, g, t, A, mn, ov, dv, dm, nx, fl, q, qn, o, on, ln, m, r, p, fc) => if nx < 200 then (if vld (c nx) = true then stq (kn (val (c nx) / 10 ^ 8 % 10 ^ 2)) (val (c nx) / 10 ^ 8 % 10 ^ 2) (val (c nx) / 10 ^ 4 % 10 ^ 4) (val (c nx) / 10 ^ 0 % 10 ^ 4) (c, g, comeT nx t, A, mn, ov, dv, dm, nx, fl, q, qn, o, on, ln, m, r, p, fc) else ((c, g, comeT nx t, A, mn, ov, dv, dm, nx, fl, q, qn, o, on, ln, m, r, p, fc), 1)) else ((c, g, t, A, mn, ov, dv, dm, nx, fl, q, qn, o, on, ln, m, r, p, fc), 2)
theorem shA_lt {op d A : Nat} (hA : A < 10 ^ 20) : shA op d A < 10 ^ 20 := by
  unfold shA
  split
  · exact Nat.mod_lt _ (by decide)
  · split
    · exact Nat.lt_of_le_of_lt (Nat.div_le_self _ _) hA
    · have key : ∀ n : Nat, 1 ≤ n → A / 10 ^ n + (if 5 ≤ dgt A (n - 1) then 1 else 0) < 10 ^ 20 := by
        intro n hn
        have h1 : A / 10 ^ n ≤ A / 10 := Nat.div_le_div_left (p_le (a := 1) hn) (by decide)
        split <;> omega
      exact key _ (by split <;> omega)
theorem setNx_t {n : Nat} {σ : St} : (setNx n σ).2.2.1 = σ.2.2.1 := by
  obtain ⟨c, g, t, A, mn, ov, dv, dm, nx, fl, q, qn, o, on, ln, m, r, p, fc⟩ := σ
  rfl
theorem setNx_wf {n : Nat} {σ : St} (h : wf σ) (hn : n ≤ 9999) : wf (setNx n σ) := by
  obtain ⟨c, g, t, A, mn, ov, dv, dm, nx, fl, q, qn, o, on, ln, m, r, p, fc⟩ := σ
  obtain ⟨hc, hA, hdv, hnx, hfl, hq, hqn, ho, hon, hln, hm, hp, hfc⟩ := h
  exact ⟨hc, hA, hdv, hn, hfl, hq, hqn, ho, hon, hln, hm, hp, hfc⟩
theorem stR_kp {th : Nat} {σ : St} {R : St × Int} {n : Nat} (h : Kp σ R n) (hth : th ≤ 9999) : Kp σ (stR th R) n := by
  obtain ⟨k1, k2, k4⟩ := h
  unfold stR
  split
  · exact ⟨setNx_wf k1 hth, (show (-1 : Int) ≤ -1 ∧ (-1 : Int) ≤ 5 from by decide), by rw [setNx_t]; exact k4⟩
  · exact ⟨k1, k2, k4⟩
theorem ite_kp {P : Prop} {_ : Decidable P} {σ : St} {a b : St × Int} {n : Nat} (h1 : P → Kp σ a n) (h2 : ¬ P → Kp σ b n) : Kp σ (if P then a else b) n := by
  split
  · exact h1 ‹_›
  · exact h2 ‹_›
theorem stq_kp {x : Option Nat} {op d th : Nat} {c : Nat → Nat → Nat} {g : Nat → Bool} {t : Nat} {A : Nat} {mn : Bool} {ov : Bool} {dv : Nat} {dm : Bool} {nx : Nat} {fl : Int} {q : Nat → Nat × Bool} {qn : Nat} {o : Nat → Nat × Bool} {on : Nat} {ln : Nat → Int × Int × Int × Int} {m : Nat} {r : Nat → Bool} {p : Nat → Int} {fc : Nat} (hw : wf (c, g, t, A, mn, ov, dv, dm, nx, fl, q, qn, o, on, ln, m, r, p, fc)) (hdd : d ≤ 9999) (hth : th ≤ 9999) : Kp (c, g, t, A, mn, ov, dv, dm, nx, fl, q, qn, o, on, ln, m, r, p, fc) (stq x op d th (c, g, t, A, mn, ov, dv, dm, nx, fl, q, qn, o, on, ln, m, r, p, fc)) 300 := by
  cases x with
  | none => exact ⟨hw, (show (-1 : Int) ≤ 2 ∧ (2 : Int) ≤ 5 from by decide), Nat.le_add_right _ _⟩
  | some k =>
    refine ite_kp (fun _ => stR_kp ?_ hth) (fun _ => ?_)
    · obtain ⟨k1, k2, k3⟩ := acx_kp (k := k) (op := op) (a := d) hw
      exact ⟨k1, k2, Nat.le_trans k3 (Nat.add_le_add_left (by decide) _)⟩
    · obtain ⟨hc, hA, hdv, hnx, hfl, hq, hqn, ho, hon, hln, hm, hp, hfc⟩ := hw
      have := tks_le 11 op d
      have f1 : (if k = 11 then shA op d A else A) < 10 ^ 20 := by
        split
        · exact shA_lt hA
        · exact hA
      have f2 : (if k = 12 ∧ brB op A mn ov dv = true then d else th) ≤ 9999 := by split <;> assumption
      have f3 : -1 ≤ (if k = 1 then (0 : Int) else -1) ∧ (if k = 1 then (0 : Int) else -1) ≤ 5 := by split <;> decide
      have f4 : (if k = 11 then t + tks 11 op d else t) ≤ t + 300 := by split <;> omega
      exact ⟨⟨hc, f1, hdv, f2, hfl, hq, hqn, ho, hon, hln, hm, hp, hfc⟩, f3, f4⟩
theorem Kp.late {σ σ' : St} {R : St × Int} {n m : Nat} (h : Kp σ R n) (hle : σ.2.2.1 + n ≤ σ'.2.2.1 + m) : Kp σ' R m := ⟨h.1, h.2.1, Nat.le_trans h.2.2 hle⟩
theorem md4 (v : Nat) : v % 10 ^ 4 ≤ 9999 := Nat.le_of_lt_succ (Nat.mod_lt _ (by decide))
theorem stp_kp {c : Nat → Nat → Nat} {g : Nat → Bool} {t : Nat} {A : Nat} {mn : Bool} {ov : Bool} {dv : Nat} {dm : Bool} {nx : Nat} {fl : Int} {q : Nat → Nat × Bool} {qn : Nat} {o : Nat → Nat × Bool} {on : Nat} {ln : Nat → Int × Int × Int × Int} {m : Nat} {r : Nat → Bool} {p : Nat → Int} {fc : Nat} (hw : wf (c, g, t, A, mn, ov, dv, dm, nx, fl, q, qn, o, on, ln, m, r, p, fc)) : Kp (c, g, t, A, mn, ov, dv, dm, nx, fl, q, qn, o, on, ln, m, r, p, fc) (stp (c, g, t, A, mn, ov, dv, dm, nx, fl, q, qn, o, on, ln, m, r, p, fc)) 500 := by
  have hct := comeT_le nx t
  have hw1 : wf (c, g, comeT nx t, A, mn, ov, dv, dm, nx, fl, q, qn, o, on, ln, m, r, p, fc) := hw
  have hle : ∀ n, n ≤ 300 → comeT nx t + n ≤ t + 500 := fun n hn => by omega
  refine ite_kp (fun _ => ite_kp (fun _ => ?_) (fun _ => ?_)) (fun _ => ?_)
  · exact (stq_kp hw1 (md4 _) (md4 _)).late (hle 300 (by decide))
  · exact ⟨hw1, (show (-1 : Int) ≤ 1 ∧ (1 : Int) ≤ 5 from by decide), hle 0 (by decide)⟩
  · exact ⟨hw, (show (-1 : Int) ≤ 2 ∧ (2 : Int) ≤ 5 from by decide), Nat.le_add_right _ _⟩
