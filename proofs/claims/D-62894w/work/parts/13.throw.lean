/-! throws and catches -/
theorem goCold {E : CtlPost} {e : Env} {d : Bool} {acts : List Action} {s : State} {f : JFrame} {a : Addr} {Q : Handler → Pre} {x : ExceptionTableEntry} {t : List ExceptionTableEntry} {c : ClassId} {cell : Cell} {vm' : Vm} (hx : covers x f.pc = true) (h0 : x.catchType ≠ 0)
    (hg : (Jvm.resolveClass f.method.cls x.catchType).Gives e.toSetting s.vm (.ok c) vm') (hsz : vm'.classes.size ≤ s.vm.classes.size) (hcell : s.heap[a]? = some cell) (hobj : ∀ k, cell.vm ≠ .statics k)
    (hk : ∃ k, vm'.classes[cell.cls]? = some k) (hc : ∃ k, vm'.classes[c]? = some k) :
    wp (findHandler.go f a (x :: t)) Q E e d acts s ↔
      if vm'.assignable cell.cls c = true then Q (.found x.handlerPc) d acts (s.setVm vm') else wp (findHandler.go f a t) Q E e d acts (s.setVm vm') := by
  simp only [covers] at hx
  obtain ⟨ha, ht⟩ := hg.op (op := VmOp.resolveClass f.method.cls x.catchType) rfl
  cases hfit : vm'.assignable cell.cls c <;>
    simp [findHandler.go, hx, h0, ha, ht, hsz, hcell, hobj, hk, hc, hfit, VmOp.dirties, VmOp.acts]
theorem catchStep {e : Env} {s s' : State} {a : Addr} {f : JFrame} {r : List Frame} {pc : Nat} (hfind : ∀ (Q : Handler → Pre) (E : CtlPost) (d : Bool) (acts : List Action), wp (findHandler f a) Q E e d acts s ↔ Q (.found pc) d acts s') :
    (stepThrowing e s a (.java f :: r)).1 = (s'.setFrames (.java { f with pc := pc, stack := [.ref a] } :: r)) := by
  simp only [stepThrowing, searchFrame, vmDo]
  generalize hr : Sem.go _ e false [] s = res
  obtain ⟨as, rfl, ha⟩ := Sem.eq_ok_of hr (a := Handler.found pc) (s' := s') (acts' := []) (by simp [hfind _ _ _ _])
  rfl
section THROW
variable {G : Gt} {K : Kt} {own : String} {cc : ByteArray} {nL : Nat} {ret : Option FieldType} {tb : List ExceptionTableEntry} {Q : State → Prop} {cs ss pc q mc ms d : Nat} {ls : List (Option Value)} {st : List Value} {ad : Ix → Nat} {w : Wt} {post : Pst} {thr : Tst}
/-- nothing here takes it: the method throws it -/
theorem VT_leave {C : String} (hk : Ok G K own cc nL ret tb) (ht : tb.all (fun x => !covers x pc) = true) (hp : thr C ad w) (hm : Nat.ble cs mc = true := by rfl) (hs : Nat.ble ss ms = true := by rfl) : VT G K nL (QE G K post thr mc ms) cs ss pc ls C ad w := by
  intro T locs la st x cell X h1 h2 h3 hx1 hx2 hx3
  have X' := stand_widen X (Nat.le_of_ble_eq_true hm) (Nat.le_of_ble_eq_true hs)
  obtain ⟨hwalk, hrun, hend, hW, hsame⟩ := X'.leaveThrown x (g := F0 K.2.2.2.2.1 pc la st) rfl rfl rfl (fun z hz => by
    rw [hk.2.2.2.2.2.2.2] at hz
    have := List.all_eq_true.mp ht z hz
    cases hcv : covers z pc with
    | false => rfl
    | true => rw [hcv] at this; cases this) hk.2.2.2.2.2.2.1
  exact ⟨_, hwalk, .threw x, hrun, hend, ⟨ad, w, h1, Or.inr ⟨x, C, cell, rfl, hx1, hx2, hx3, hp⟩⟩, hW, h2.1, h2.2.1, locs, hsame, h2.2.2⟩
/-- from the note to the handler's pc, where the search has ended there, the tables being warmer -/
theorem VT_go {T : State} {la : Array Slot} {x t : Nat} {vm' : Vm} {locs : List Loc} (h3 : lvo la nL ls) (X : Stand K.1 G.1 K.2.1 K.2.2.1 K.2.2.2.1 K.2.2.2.2.1 K.2.2.2.2.2.1 K.2.2.2.2.2.2.1 K.2.2.2.2.2.2.2.1 K.2.2.2.2.2.2.2.2 T locs cs ss) (hW : K.2.2.2.1.WarmedH vm')
    (h1 : hv G ad w T.heap) (h2 : va_S (gA G) K.2.2.2.1.heap T.heap locs)
    (hfind : ∀ (Q : Handler → Pre) (E : CtlPost) (d : Bool) (acts : List Action), wp (findHandler (F0 K.2.2.2.2.1 pc la st) x) Q E K.2.1 d acts ((T.setTop (F0 K.2.2.2.2.1 pc la st)).pushFrame (.throwing x)) ↔ Q (.found t) d acts (((T.setTop (F0 K.2.2.2.2.1 pc la st)).pushFrame (.throwing x)).setVm vm'))
    (kk : V G K nL Q cs ss t ls [.ref x] ad w) : ∃ t, Steps K.1.tables K.2.1 K.2.2.2.2.2.2.1 ((T.setTop (F0 K.2.2.2.2.1 pc la st)).pushFrame (.throwing x)) t ∧ Q t := by
  obtain ⟨t2, a, b⟩ := kk T.heap locs la h1 h2 h3 (T.setVm vm') rfl (X.noted hW)
  refine ⟨t2, ?_, b⟩
  have h : At T (F0 K.2.2.2.2.1 pc la st).method K.2.2.2.2.2.2.2.2 K.2.2.2.2.2.2.1 := X.here
  obtain ⟨hgo, hw⟩ := h.throwing x
  refine Steps.head hgo hw ?_
  rw [stepThread_throwing (frames_entered h.top _), catchStep hfind]
  obtain ⟨g₀, hg⟩ := Option.isSome_iff_exists.mp h.top
  obtain ⟨r, hr⟩ := State.topJava?_eq_some.mp hg
  have e1 : (((T.setTop (F0 K.2.2.2.2.1 pc la st)).pushFrame (.throwing x)).setVm vm').setFrames (.java { (F0 K.2.2.2.2.1 pc la st) with pc := t, stack := [.ref x] } :: T.frames.tail) = (T.setVm vm').setTop (F0 K.2.2.2.2.1 t la [.ref x]) := by
    have e0 : ∀ X : List Frame, (T.setFrames X).setVm vm' = (T.setVm vm').setFrames X := fun _ => rfl
    rw [State.pushFrame, State.setTop_of_frames _ hr, State.setFrames_setFrames, e0, State.setFrames_setFrames, State.setTop_of_frames (s := T.setVm vm') _ hr, hr]
    rfl
  rw [e1]
  exact a
theorem coldClass {T : State} {locs : List Loc} {C : String} {idx : Nat} (hk : Ok G K own cc nL ret tb) (X : Stand K.1 G.1 K.2.1 K.2.2.1 K.2.2.2.1 K.2.2.2.2.1 K.2.2.2.2.2.1 K.2.2.2.2.2.2.1 K.2.2.2.2.2.2.2.1 K.2.2.2.2.2.2.2.2 T locs cs ss) (hl : Cond.classLink own idx C ∈ tw) :
    ∃ (vm' : Vm) (cC : ClassId), K.2.2.2.1.vm.findClass C = some cC ∧ (Jvm.resolveClass K.2.2.2.2.1.cls idx).Gives K.2.1.toSetting T.vm (.ok cC) vm' ∧ vm'.classes.size ≤ T.vm.classes.size ∧ K.2.2.2.1.WarmedH vm' := by
  have hpl : K.2.1.platform.magicAccessors = ({} : Platform).magicAccessors := by rw [X.admits.platform]
  obtain ⟨cC, hfc, hcl⟩ := Cond.classLink_spec hk.2.2.2.1 (hk.ts _ hl) K.2.1.platform hpl
  obtain ⟨hg, hwarm, hready⟩ := State.classEntry (e := K.2.1) X.warmed hcl
  exact ⟨_, cC, hfc, hg, by no_record, hwarm⟩
theorem classAt {vm vm' : Vm} {c : ClassId} {C : String} (ha : vm.Alike vm') (h : vm.findClass C = some c) : ∃ k, vm'.classes[c]? = some k := by
  obtain ⟨k, hk⟩ := Vm.classAt_of_findClass h
  obtain ⟨k', hk', -⟩ := ha.2.2 _ _ hk
  exact ⟨k', hk'⟩
/-- the first entry takes it -/
theorem VT_catch1 {C : String} {x0 : ExceptionTableEntry} {rest : List ExceptionTableEntry} (hk : Ok G K own cc nL ret (x0 :: rest)) (hcov : covers x0 pc = true) (h0 : x0.catchType ≠ 0) (hl : Cond.classLink own x0.catchType C ∈ tw) (hc : Cond.castable C C ∈ tw)
    (kk : ∀ a, V G K nL Q cs ss x0.handlerPc ls [.ref a] ad w) : VT G K nL Q cs ss pc ls C ad w := by
  intro T locs la st x cell X h1 h2 h3 hx1 hx2 hx3
  obtain ⟨vm', cC, hfc, hg, hsz, hwarm⟩ := coldClass hk X hl
  have hcC : cell.cls = cC := Option.some.inj (hx3.symm.trans (by rw [X.warmed.alike.findClass]; exact hfc))
  obtain ⟨c1, c2, q1, q2, q3⟩ := Cond.castable_spec (hk.ts _ hc)
  cases q1.symm.trans hfc
  cases q2.symm.trans hfc
  refine VT_go h3 X hwarm h1 h2 (fun Q' E d acts => ?_) (kk x)
  rw [W.findHandler_eq (meth := K.2.2.2.2.2.2.2.1) (code := K.2.2.2.2.2.2.2.2) (by rw [Stand.throwing_vm]; exact X.method') X.code, hk.2.2.2.2.2.2.2,
    goCold (cell := cell) hcov h0 (by rw [Stand.throwing_vm]; exact hg) (by rw [Stand.throwing_vm]; exact hsz) (by rw [Stand.throwing_heap]; exact hx1) (fun k z => by rw [hx2] at z; cases z) (by rw [hcC]; exact classAt hwarm.alike hfc) (classAt hwarm.alike hfc),
    if_pos (by rw [hcC, hwarm.alike.assignable]; exact q3)]
/-- the first entry passes it on, the second takes it -/
theorem VT_catch2 {C D : String} {x0 x1 : ExceptionTableEntry} {rest : List ExceptionTableEntry} (hk : Ok G K own cc nL ret (x0 :: x1 :: rest)) (hcov : covers x0 pc = true) (h0 : x0.catchType ≠ 0) (hl0 : Cond.classLink own x0.catchType D ∈ tw) (hnc : va_Nc C D K.2.2.2.1) (hcov1 : covers x1 pc = true) (h01 : x1.catchType ≠ 0) (hl : Cond.classLink own x1.catchType C ∈ tw) (hc : Cond.castable C C ∈ tw)
    (kk : ∀ a, V G K nL Q cs ss x1.handlerPc ls [.ref a] ad w) : VT G K nL Q cs ss pc ls C ad w := by
  intro T locs la st x cell X h1 h2 h3 hx1 hx2 hx3
  obtain ⟨vm0, cD, hfD, hg0, hsz0, hwarm0⟩ := coldClass hk X hl0
  obtain ⟨vm', cC, hfc, hg, hsz, hwarm⟩ := coldClass hk (X.noted hwarm0) hl
  have hcC : cell.cls = cC := Option.some.inj (hx3.symm.trans (by rw [X.warmed.alike.findClass]; exact hfc))
  obtain ⟨c1, c2, q1, q2, q3⟩ := Cond.castable_spec (hk.ts _ hc)
  cases q1.symm.trans hfc
  cases q2.symm.trans hfc
  obtain ⟨n1, n2, p1, p2, p3⟩ := hnc
  cases p1.symm.trans hfc
  cases p2.symm.trans hfD
  refine VT_go (vm' := vm') h3 X hwarm h1 h2 (fun Q' E d acts => ?_) (kk x)
  rw [W.findHandler_eq (meth := K.2.2.2.2.2.2.2.1) (code := K.2.2.2.2.2.2.2.2) (by rw [Stand.throwing_vm]; exact X.method') X.code, hk.2.2.2.2.2.2.2,
    goCold (cell := cell) hcov h0 (by rw [Stand.throwing_vm]; exact hg0) (by rw [Stand.throwing_vm]; exact hsz0) (by rw [Stand.throwing_heap]; exact hx1) (fun k z => by rw [hx2] at z; cases z) (by rw [hcC]; exact classAt hwarm0.alike hfc) (classAt hwarm0.alike hfD),
    if_neg (by rw [hcC, hwarm0.alike.assignable, p3]; decide),
    goCold (cell := cell) (s := ((T.setTop (F0 K.2.2.2.2.1 pc la st)).pushFrame (.throwing x)).setVm vm0) hcov1 h01 hg hsz (by show ((T.setTop (F0 K.2.2.2.2.1 pc la st)).pushFrame (.throwing x)).heap[x]? = _; rw [Stand.throwing_heap]; exact hx1) (fun k z => by rw [hx2] at z; cases z) (by rw [hcC]; exact classAt hwarm.alike hfc) (classAt hwarm.alike hfc),
    if_pos (by rw [hcC, hwarm.alike.assignable]; exact q3)]
  exact Iff.rfl
end THROW
/-- the walk taken up anew: what was done so far counts as the start -/
theorem reStand {p : Program} {l : Launch} {e : Env} {R : Room} {s : State} {m : MethodId} {args : Array Value} {below : List Frame} {meth : Method} {c : Code} {T : State} {locs : List Loc} {cells slots : Nat}
    (X : Stand p l e R s m args below meth c T locs cells slots) {R' : Room} (hf : R'.frames ≤ R.frames) (hl : R'.locals ≤ R.locals) (hc : cells + R'.cells ≤ R.cells) (hs : slots + R'.slots ≤ R.slots) :
    Stand p l e R' (T.setFrames (.invoking m args :: below)) m args below meth c T [] 0 0 := by
  obtain ⟨g₀, hfr⟩ := X.frames_eq
  have hcur : T.cur < T.threads.size := State.cur_lt_of_frames hfr
  obtain ⟨th, hth, -⟩ := State.frames_cons hfr
  have hF : (T.setFrames (.invoking m args :: below)).frames = .invoking m args :: below := State.frames_setFrames _ hcur
  have hcur' : (T.setFrames (.invoking m args :: below)).cur < (T.setFrames (.invoking m args :: below)).threads.size := State.cur_lt_of_frames hF
  obtain ⟨th', hth', -⟩ := State.frames_cons hF
  refine ⟨X.admits, X.cas, X.clock, hF, ?_, ?_, X.method', X.code, X.here, X.tail, State.WarmedH.refl T, (State.stackLimits_setFrames ..).symm, (State.stackBytes_setFrames ..).symm, ?_⟩
  · have hr := X.room
    have h1 := X.heapSize
    have h2 := X.used
    have h3 := X.book
    have hli := X.limits
    have hby := X.bytes
    simp only [State.hasRoom, Bool.and_eq_true, decide_eq_true_eq] at hr ⊢
    rw [State.localsInUse_invoking X.frames X.method X.code, X.frames] at hr
    rw [State.localsInUse_invoking hF X.method' X.code, hF, State.stackLimits_setFrames, State.stackBytes_setFrames, hli, hby]
    obtain ⟨⟨⟨⟨a1, a2, a3, a4, a5, a6⟩, b⟩, c1⟩, d⟩ := hr
    refine ⟨⟨⟨⟨by omega, by omega, by omega, by omega, by omega, a6⟩, ?_⟩, ?_⟩, h3⟩
    · show T.heap.size + _ ≤ _
      omega
    · show T.slotsUsed + _ ≤ _
      omega
  · have hh := X.hears
    have ha := X.warmed.alike
    cases below with
    | nil =>
      simp only [State.hears] at hh ⊢
      show (T.vm.method? m).any _ = true
      rw [ha.method?]; exact hh
    | cons f r =>
      cases f with
      | java g =>
        simp only [State.hears] at hh ⊢
        have hc : (T.setFrames (.invoking m args :: .java g :: r)).code? g.method = s.code? g.method := by
          rw [State.code?_eq, State.code?_eq]
          show (T.vm.method? _).bind _ = _
          rw [ha.method?]
        rw [hc]; exact hh
      | native n => rfl
      | proc n => rfl
      | _ =>
        simp only [State.hears] at hh ⊢
        show (T.vm.method? m).any _ = true
        rw [ha.method?]; exact hh
  · have h := (State.sameButNew.refl (T.setFrames (.invoking m args :: below)) hth').setFrames T.frames hcur'
    rw [State.setFrames_setFrames, State.setFrames_self hth] at h
    exact h
theorem same_cell {s t : State} {k n : Nat} (h : s.sameButNew t [] k n) {q : Nat} (hq : q < s.heap.size) : t.heap[q]? = s.heap[q]? := by
  obtain ⟨cell, hc⟩ : ∃ cell, s.heap[q]? = some cell := ⟨_, Array.getElem?_eq_getElem hq⟩
  obtain ⟨c', h1, h2, h3, h4⟩ := h.2.2.2.2.2 q cell hc
  rw [h1, hc]
  have e : c'.slots = cell.slots := by
    apply Array.ext_getElem?
    intro i
    exact h4 i (by simp)
  rw [h2, e]
theorem gf.own {G : Gt} {s : State} {ic : Nat} {C : String} (h : gf G s) (hx : ∀ a ∈ Bundle.ownAtoms0 "DrumMachine" ic C exN, a ∈ tw ∨ a ∈ thA) (args : Array Value) : ∀ a ∈ Bundle.ownAtoms0 "DrumMachine" ic C exN, a.before args s = true := by
  intro a ha
  rcases hx a ha with h1 | h1
  · exact h.1 a h1 args
  · have hT := h.2.2.2.2.1
    have t0 := hT _ (List.mem_cons_self : _ ∈ thR) args
    have t1 := hT _ (List.mem_cons_of_mem _ List.mem_cons_self : _ ∈ thR) args
    have h1 : a ∈ [_, _, _, _] := h1
    simp only [List.mem_cons, List.not_mem_nil, or_false] at h1
    rcases h1 with rfl | rfl | rfl | rfl
    · exact t0.1
    · exact t1.1
    · exact t0.2
    · exact t1.2
theorem r_throw {G : Gt} {K : Kt} {cc : ByteArray} {nL : Nat} {ret : Option FieldType} {cs ss pc q0 q1 q2 q3 mc ms idn ic : Nat} {ls : List (Option Value)} {ad : Ix → Nat} {w : Wt} {post : Pst} {thr : Tst} {C : String} (hk : Ok G K "DrumMachine" cc nL ret []) (hx : Ex idn ic C)
    (d0 : decode cc pc = .ok (.new idn, 3) ∧ pc + 3 = q0) (d1 : decode cc q0 = .ok (.dup, 1) ∧ q0 + 1 = q1) (d2 : decode cc q1 = .ok (.invokespecial ic, 3) ∧ q1 + 3 = q2) (d3 : decode cc q2 = .ok (.athrow, 1) ∧ q2 + 1 = q3) (hp : thr C ad w)
    (hm : Nat.ble (cs + 1) mc = true := by rfl) (hs : Nat.ble (ss + 6) ms = true := by rfl) (hr : 6 ≤ K.2.2.1.frames ∧ 204 ≤ K.2.2.1.locals) (hce : cs + 1 ≤ K.2.2.1.cells) (hsl : ss + 6 ≤ K.2.2.1.slots) : V G K nL (QE G K post thr mc ms) cs ss pc ls [] ad w := by
  obtain ⟨d0, rfl⟩ := d0
  obtain ⟨d1, rfl⟩ := d1
  obtain ⟨d2, rfl⟩ := d2
  obtain ⟨d3, -⟩ := d3
  intro H locs la h1 h2 h3 T hT X
  obtain ⟨x1, x2, x3, x4, x5⟩ := hx
  have Y := reStand X (R' := { frames := K.2.2.1.frames, cells := 1, slots := 6, locals := K.2.2.1.locals }) (Nat.le_refl _) (Nat.le_refl _) hce hsl
  generalize hs' : T.setFrames (.invoking K.2.2.2.2.1 K.2.2.2.2.2.1 :: K.2.2.2.2.2.2.1) = s' at Y
  have hsv : s'.vm = T.vm := by rw [← hs']; rfl
  have hsh : s'.heap = H := by rw [← hs']; exact hT
  have hgf : gf G s' := gf.moved (locs := locs) hk.2.2.2.2.1 (by rw [hsv]; exact X.warmed) (by rw [hsh]; exact h2) (by rw [hsh]; exact h1.2.2)
  have hown : s'.vm.findClass "DrumMachine" = some K.2.2.2.2.1.cls := by rw [hsv, X.warmed.alike.findClass]; exact hk.2.2.2.1
  have htr : K.2.1.platform.stackTraces = false := by
    rw [X.admits.platform]
    show G.1.stackTraces = false
    unfold Launch.stackTraces
    rw [hk.2.2.2.2.1.2.2.2.2.2.2.2.2.2.1]
    decide
  have key : W K.1 G.1 K.2.1 { frames := K.2.2.1.frames, cells := 1, slots := 6, locals := K.2.2.1.locals } s' K.2.2.2.2.1 K.2.2.2.2.2.1 K.2.2.2.2.2.2.1 K.2.2.2.2.2.2.2.1 K.2.2.2.2.2.2.2.2 H [] 0 0 (fun U => U.status = .running ∧ Ended U K.2.2.2.2.2.2.1 (.threw H.size) ∧ s'.WarmedH U.vm ∧ s'.sameButNew ({ U with vm := s'.vm } : State) [] 1 6 ∧ ∃ ce : Cell, U.heap[H.size]? = some ce ∧ ce.vm = .none ∧ s'.vm.findClass C = some ce.cls) (F0 K.2.2.2.2.1 pc la []) := by
    refine W.newc hk.1 hk.2.1 hown (hgf.1 _ x1 _) (hgf.1 _ x2 _) (hgf.1 _ x3 _) rfl d0 (Nat.le_refl _) (Nat.le_refl _) fun cC kC f1 f2 f3 f4 => ?_
    refine lv_dup hk.1 hk.2.1 d1 rfl ?_
    intro T2 hT2 X2
    obtain ⟨U, a1, a2, a3, a4, a5, ce, a6, a7⟩ := X2.ctorThrow0 (own := "DrumMachine") (cls := C) (names := exN) (ic := ic) hk.1 htr hown x4 (by decide) (gf.own hgf x5 _) (fun _ h => by cases h) (a := H.size) f1 f2 (by rw [hT2, Array.getElem?_push_size]) (by rw [hsh]; exact Nat.le_refl _) (g := F0 K.2.2.2.2.1 (pc + 3 + 1) la [.ref H.size, .ref H.size]) rfl (h3.1.trans hk.2.2.1.symm) rfl rfl (rest := []) rfl (by rw [hk.2.1]; exact d2) (by rw [hk.2.1]; exact d3) (fun z hz => by rw [hk.2.2.2.2.2.2.2] at hz; cases hz) (by show 2 + 3 < K.2.2.1.frames; omega) (by show 2 * 0 + (1 + 0) + (13 * (2 + 1) + 41) ≤ K.2.2.1.locals; omega) hk.2.2.2.2.2.2.1
    exact ⟨U, a1, a2, a3, a4, a5, ce, a6, a7.vm, a7.cls⟩
  obtain ⟨U, a1, a2, a3, a4, a5, ce, a6, a7, a8⟩ := key T hT Y
  have hsz := a5.2.2.1
  have hold : ∀ q : Nat, q < H.size → U.heap[q]? = H[q]? := fun q hq => by
    have := same_cell a5 (q := q) (by rw [hsh]; exact hq)
    rw [hsh] at this
    exact this
  have hge : H.size ≤ U.heap.size := by
    have := a5.2.1
    rw [hsh] at this
    exact this
  have hB := hv.size hk h2
  refine ⟨U, a1, .threw H.size, a2, a3, ⟨ad, w, ⟨fun i c hc => ⟨(h1.1 i c hc).1.kept (hold _ (h1.1 i c hc).1.lt), (h1.1 i c hc).2⟩, h1.2.1, fun q cell hq hc => ?_⟩, Or.inr ⟨H.size, C, ce, rfl, a6, a7, ?_, hp⟩⟩, ?_, Nat.le_trans h2.1 hge, fun q hq hn => (hold q (Nat.lt_of_lt_of_le hq h2.1)).trans (h2.2.1 q hq hn), locs, ?_, h2.2.2⟩
  · rcases Nat.lt_or_ge q H.size with hl | hl
    · rw [hold q hl] at hc
      exact h1.2.2 q cell hq hc
    · have hlt := (Array.getElem?_eq_some_iff.mp hc).1
      have : U.heap.size ≤ H.size + 1 := by
        rw [hsh] at hsz
        exact hsz
      have e : q = H.size := by omega
      subst e
      cases hc.symm.trans a6
      rw [a7]; rfl
  · rw [a4.alike.findClass]; exact a8
  · exact State.WarmedH.trans X.warmed (by rw [← hs'] at a4; exact a4)
  · have hT2 : T.sameButNew (U.setVm T.vm) [] 1 6 := by
      obtain ⟨b1, b2, b3, b4, b5, b6⟩ := a5
      rw [← hs'] at b1 b2 b3 b4 b5 b6
      refine ⟨?_, b2, b3, b4, b5, b6⟩
      rw [State.setFrames_setFrames] at b1
      exact b1
    have h9 := X.same.trans (hT2.setVm K.2.2.2.1.vm)
    rw [List.append_nil] at h9
    exact h9.mono (Nat.le_of_ble_eq_true hm) (Nat.le_of_ble_eq_true hs)
