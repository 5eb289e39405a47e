/-! calls by contract, throws, catches -/
/-- a call that has been linked: it ends as the contract says -/
theorem callEnds {G : Gt} {p : Program} {e : Env} {R : Room} {s : State} {m : MethodId} {args : Array Value} {below : List Frame} {meth : Method} {c : Code} {U : State} {locs : List Loc} {cells slots : Nat}
    (X : Stand p G.1 e R s m args below meth c U locs cells slots) {y : MethodName} {cw : Cond} {d mc ms maxL : Nat} {av : List Value} {ad : Ix → Nat} {w : Wt} {post : Pst} {thr : Tst} (hM : Mt G y cw d mc ms av ad w post thr)
    {g : JFrame} {ig : Instr} {len : Nat} {mk : MethodId} (hg : g.method = m) (hsize : g.locals.size = c.maxLocals) (hdg : decode c.code g.pc = .ok (ig, len)) (hWt : 2 * g.monitorRoom + (g.stack.map fun v => v.category).sum ≤ 8)
    (hn : U.methodNamed? y = some mk) {methY : Method} {cY : Code} (hmY : U.vm.method? mk = some methY) (hcY : methY.code = some cY) (hlY : cY.maxLocals = maxL) (hini : (Cond.initialized y.cls).before args U = true)
    (hcw : cw.before av.toArray U = true) (hgf : gf G U) (hh : hv G ad w U.heap) (hfr : d + 1 ≤ R.frames) (hlo : maxL + 19 + 34 * d ≤ R.locals) (hce : cells + mc ≤ R.cells) (hsl : slots + ms ≤ R.slots) :
    ∃ (T' : State) (L : List Loc) (ad' : Ix → Nat) (w' : Wt), Stand p G.1 e R s m args below meth c T' (locs ++ L) (cells + mc) (slots + ms) ∧ hv G ad' w' T'.heap ∧ U.heap.size ≤ T'.heap.size ∧ (∀ q : Nat, q < U.heap.size → ¬ gA G q → T'.heap[q]? = U.heap[q]?) ∧ (∀ q ∈ L, gA G q.base) ∧
      ((∃ v, post v ad' w' ∧ Steps p.tables e below (doInvoke e (U.setTop g) [] mk av.toArray).1 (T'.setTop { g with pc := g.pc + len, stack := v.toList ++ g.stack })) ∨
       ∃ (x : Nat) (C : String) (cell : Cell), thr C ad' w' ∧ T'.heap[x]? = some cell ∧ cell.vm = .none ∧ T'.vm.findClass C = some cell.cls ∧ Steps p.tables e below (doInvoke e (U.setTop g) [] mk av.toArray).1 ((T'.setTop g).pushFrame (.throwing x))) := by
  have h : At U g.method c below := by rw [hg]; exact X.here
  obtain ⟨kY, hkY, -⟩ := className_of_methodNamed hn
  have hinitY : kY.init = .initialized := Cond.initialized_spec (findClass_of_methodNamed hn) hkY hini
  have happ : (headSpec [cw] (rmL d mc ms)).appliesLoose y e.platform (U.calling g mk av.toArray) = true :=
    Spec.appliesLoose_calling (g := g) h hdg hn hkY hinitY
      (X.room_calling (g := g) (R' := rmL d mc ms) hsize hmY hcY hfr (by rw [hlY]; show _ + (maxL + 11) + 34 * d ≤ _; omega) hce hsl)
      (atoms_intro fun x hx => by rcases List.mem_singleton.mp hx with rfl; exact hcw)
  obtain ⟨mid, hmid⟩ := h.above
  have hfrm : (U.setTop g).frames = (.java g :: mid) ++ below := by rw [State.frames_setTop' g h.top, hmid]; rfl
  have hcalled : (U.calling g mk av.toArray).heap = U.heap := rfl
  have hgf' : gf G (U.calling g mk av.toArray) := gf.moved (locs := []) (U := U.calling g mk av.toArray) hgf (State.WarmedH.refl U) ⟨Nat.le_refl _, fun _ _ _ => rfl, fun _ h => by cases h⟩ hh.2.2
  obtain ⟨o, s₂, hsteps, -, hend, ⟨ad', w', hh', hoc⟩, hW2, hz2, hk2, L, hsame, hL⟩ := Steps.callFree hM p X.admits X.cas X.clock (acts := []) hfrm happ ⟨rfl, hgf', hh⟩ trivial
  rw [State.frames_setTop' g h.top, X.tail] at hend
  rcases hoc with ⟨v, rfl, hpost⟩ | ⟨x, C, cell, rfl, hx1, hx2, hx3, hthr⟩
  · obtain ⟨T', XT, -, -, ht⟩ := X.outOf hg hdg hend hW2 hsame
    have hheap : s₂.heap = T'.heap := by rw [ht]; rfl
    exact ⟨T', L, ad', w', XT, by rw [← hheap]; exact hh', by rw [← hheap]; exact hz2, fun q a b => by rw [← hheap]; exact hk2 q a b, hL, Or.inl ⟨v, hpost, by rw [← ht]; exact hsteps⟩⟩
  · obtain ⟨T', XT, -, -, ht⟩ := X.outOfThrown hg hend hW2 hsame
    have hheap : s₂.heap = T'.heap := by rw [ht]; exact Stand.throwing_heap T' g x
    have hvm : s₂.vm = T'.vm := by rw [ht]; exact Stand.throwing_vm T' g x
    exact ⟨T', L, ad', w', XT, by rw [← hheap]; exact hh', by rw [← hheap]; exact hz2, fun q a b => by rw [← hheap]; exact hk2 q a b, hL, Or.inr ⟨x, C, cell, hthr, by rw [← hheap]; exact hx1, hx2, by rw [← hvm]; exact hx3, by rw [← ht]; exact hsteps⟩⟩
/-- the state in which an exception of class C lies over the frame at pc -/
def VT (G : Gt) (K : Kt) (nL : Nat) (Q : State → Prop) (cs ss pc : Nat) (ls : List (Option Value)) (C : String) (ad : Ix → Nat) (w : Wt) : Prop :=
  ∀ (T : State) (locs : List Loc) (la : Array Slot) (st : List Value) (x : Nat) (cell : Cell), Stand K.1 G.1 K.2.1 K.2.2.1 K.2.2.2.1 K.2.2.2.2.1 K.2.2.2.2.2.1 K.2.2.2.2.2.2.1 K.2.2.2.2.2.2.2.1 K.2.2.2.2.2.2.2.2 T locs cs ss → hv G ad w T.heap → va_S (gA G) K.2.2.2.1.heap T.heap locs → lvo la nL ls →
    T.heap[x]? = some cell → cell.vm = .none → T.vm.findClass C = some cell.cls → ∃ t, Steps K.1.tables K.2.1 K.2.2.2.2.2.2.1 ((T.setTop (F0 K.2.2.2.2.1 pc la st)).pushFrame (.throwing x)) t ∧ Q t
theorem Mi.at {y : MethodName} {cw : Cond} {maxL nA : Nat} (h : Mi y cw maxL nA) {U : State} (hw : gW U) : ∃ mk methY cY, U.methodNamed? y = some mk ∧ U.vm.method? mk = some methY ∧ methY.code = some cY ∧ cY.maxLocals = maxL ∧ parseMethodDescriptor y.desc = some methY.sig := by
  obtain ⟨h1, h2, h3, h4, cc, ret, hc⟩ := h
  have hb := hw cw h1 #[]
  rcases hc with rfl | ⟨hh, rfl⟩
  · obtain ⟨mk, hn⟩ := Cond.code_named hb
    obtain ⟨meth, c, q1, q2, q3, q4, -, -, -, q5⟩ := Cond.code_spec hn hb
    exact ⟨mk, meth, c, hn, q1, q2, q4, q5⟩
  · obtain ⟨mk, meth, c, hn, q1, q2, q3, q4, q5, q6, q7, q8⟩ := Cond.codeWith_spec hb
    exact ⟨mk, meth, c, hn, q1, q2, q4, q8⟩
theorem Mi.len {y : MethodName} {cw : Cond} {maxL nA : Nat} (h : Mi y cw maxL nA) {As : List Value} (hn : As.length = nA) : ∀ sig, parseMethodDescriptor y.desc = some sig → As.length = sig.parameters.length := fun sig hs => by
  have h4 := h.2.2.2.1
  rw [hs] at h4
  exact hn.trans (Option.some.inj h4).symm
section CALL
variable {G : Gt} {K : Kt} {own : String} {cc : ByteArray} {nL : Nat} {ret : Option FieldType} {tb : List ExceptionTableEntry} {Q : State → Prop} {cs ss pc q mc ms d : Nat} {ls : List (Option Value)} {st : List Value} {ad : Ix → Nat} {w : Wt} {post : Pst} {thr : Tst} {y : MethodName} {cw : Cond} {maxL nA idx : Nat}
/-- what stands behind every linked call -/
theorem callGo {T : State} {H : Heap} {locs : List Loc} {la : Array Slot} {st0 : List Value} {ig : Instr} {mk : MethodId} {av : List Value} {vm₁ : Vm} (hk : Ok G K own cc nL ret tb) (hmi : Mi y cw maxL nA) (hM : Mt G y cw d mc ms av ad w post thr) (hT : T.heap = H) (h1 : hv G ad w H) (h2 : va_S (gA G) K.2.2.2.1.heap H locs) (h3 : lvo la nL ls)
    (X₁ : Stand K.1 G.1 K.2.1 K.2.2.1 K.2.2.2.1 K.2.2.2.2.1 K.2.2.2.2.2.1 K.2.2.2.2.2.2.1 K.2.2.2.2.2.2.2.1 K.2.2.2.2.2.2.2.2 (T.setVm vm₁) locs cs ss) (hd : decode cc pc = .ok (ig, 3)) (hn : K.2.2.2.1.methodNamed? y = some mk)
    (hst : (st.map fun v => v.category).sum ≤ 8) (hfr : d + 1 ≤ K.2.2.1.frames) (hlo : 34 * (d + 1) ≤ K.2.2.1.locals) (hmx : Nat.ble maxL 15 = true) (hce : cs + mc ≤ K.2.2.1.cells) (hsl : ss + ms ≤ K.2.2.1.slots)
    (kk : ∀ v ad' w', post v ad' w' → V G K nL Q (cs + mc) (ss + ms) (pc + 3) ls (v.toList ++ st) ad' w') (kt : ∀ C ad' w', thr C ad' w' → VT G K nL Q (cs + mc) (ss + ms) pc ls C ad' w')
    (hgo : ∀ target, Steps K.1.tables K.2.1 K.2.2.2.2.2.2.1 (doInvoke K.2.1 ((T.setVm vm₁).setTop (F0 K.2.2.2.2.1 pc la st)) [] mk av.toArray).1 target → Steps K.1.tables K.2.1 K.2.2.2.2.2.2.1 (T.setTop (F0 K.2.2.2.2.1 pc la st0)) target) :
    ∃ t, Steps K.1.tables K.2.1 K.2.2.2.2.2.2.1 (T.setTop (F0 K.2.2.2.2.1 pc la st0)) t ∧ Q t := by
  have hgf : gf G (T.setVm vm₁) := gf.moved (locs := locs) hk.2.2.2.2.1 X₁.warmed (by show va_S _ _ T.heap _; rw [hT]; exact h2) (by show nSt _ T.heap; rw [hT]; exact h1.2.2)
  obtain ⟨mk', methY, cY, hnU, hmY, hcY, hlY, -⟩ := hmi.at hgf.1
  have hmk : mk' = mk := Option.some.inj (hnU.symm.trans (X₁.named hn))
  subst hmk
  have hmx' : maxL ≤ 15 := Nat.le_of_ble_eq_true hmx
  obtain ⟨T', L, ad', w', XT, hh', hz, hkp, hL, hend⟩ := callEnds (g := F0 K.2.2.2.2.1 pc la st) (len := 3) X₁ hM rfl (h3.1.trans hk.2.2.1.symm) (by rw [hk.2.1]; exact hd) (by show 2 * 0 + (st.map fun v => v.category).sum ≤ 8; omega) hnU hmY hcY hlY (hgf.1 _ hmi.2.1 _) (hgf.1 _ hmi.1 _) hgf (by show hv G ad w T.heap; rw [hT]; exact h1) hfr (by omega) hce hsl
  have hz' : H.size ≤ T'.heap.size := by rw [← hT]; exact hz
  have hkp' : ∀ q : Nat, q < H.size → ¬ gA G q → T'.heap[q]? = H[q]? := fun q a b => by rw [← hT] at a ⊢; exact hkp q a b
  have hS' : va_S (gA G) K.2.2.2.1.heap T'.heap (locs ++ L) := ⟨Nat.le_trans h2.1 hz', fun q a b => (hkp' q (Nat.lt_of_lt_of_le a h2.1) b).trans (h2.2.1 q a b), fun x hx => by
    rcases List.mem_append.mp hx with h | h
    · exact h2.2.2 x h
    · exact hL x h⟩
  rcases hend with ⟨v, hp, hsteps⟩ | ⟨x, C, cell, hp, hx1, hx2, hx3, hsteps⟩
  · obtain ⟨t, a, b⟩ := kk v ad' w' hp T'.heap (locs ++ L) la hh' hS' h3 T' rfl XT
    exact ⟨t, hgo t (hsteps.trans a), b⟩
  · obtain ⟨t, a, b⟩ := kt C ad' w' hp T' (locs ++ L) la st x cell XT hh' hS' h3 hx1 hx2 hx3
    exact ⟨t, hgo t (hsteps.trans a), b⟩
theorem r_callST {As : List Value} {st0 : List Value} (hk : Ok G K own cc nL ret tb) (hmi : Mi y cw maxL nA) (hM : Mt G y cw d mc ms As ad w post thr) (hs : Cond.static y ∈ tw) (hl : Cond.methodLink own idx y ∈ tw ∨ ∃ host, Cond.methodLinkNest own idx y host ∈ tw) (hd : decode cc pc = .ok (.invokestatic idx, 3) ∧ pc + 3 = q)
    (he : st0 = As.reverse ++ st) (hA : As.length = nA) (hst : (st.map fun v => v.category).sum ≤ 8) (hfr : d + 1 ≤ K.2.2.1.frames) (hlo : 34 * (d + 1) ≤ K.2.2.1.locals) (hce : cs + mc ≤ K.2.2.1.cells) (hsl : ss + ms ≤ K.2.2.1.slots)
    (kk : ∀ v ad' w', post v ad' w' → V G K nL Q (cs + mc) (ss + ms) q ls (v.toList ++ st) ad' w') (kt : ∀ C ad' w', thr C ad' w' → VT G K nL Q (cs + mc) (ss + ms) pc ls C ad' w') (hmx : Nat.ble maxL 15 = true := by rfl) : V G K nL Q cs ss pc ls st0 ad w := by
  obtain ⟨hd, rfl⟩ := hd
  subst he
  intro H locs la h1 h2 h3 T hT X
  obtain ⟨mk, methM, cM, hnamed, hmethM, hcM, -, hsigM⟩ := hmi.at hk.2.2.2.2.1.1
  have hstatic : methM.isStatic = true := Cond.static_spec hnamed hmethM (hk.ts _ hs)
  obtain ⟨kP, hkP, -⟩ := className_of_methodNamed hnamed
  have hinitP : kP.init = .initialized := Cond.initialized_spec (findClass_of_methodNamed hnamed) hkP (hk.ts _ hmi.2.1)
  rcases hl with hl | ⟨host, hl⟩
  · obtain ⟨vm₁, X₁, hstep₁⟩ := X.invokestatic hk.1 hk.2.2.2.1 (hk.ts _ hl) hnamed hmethM hstatic hkP hinitP hmi.2.2.1 (g := F0 K.2.2.2.2.1 pc la (As.reverse ++ st)) rfl (argsL := As) (rest := st) (hmi.len hA _ hsigM) rfl (by rw [hk.2.1]; exact hd)
    exact callGo hk hmi hM hT h1 h2 h3 X₁ hd hnamed hst hfr hlo hmx hce hsl kk kt (fun target h => hstep₁ _ fun acts => by rw [doInvoke_state]; exact h)
  · obtain ⟨vm₁, X₁, hstep₁⟩ := X.invokestaticNest hk.1 hk.2.2.2.1 (hk.ts _ hl) hnamed hmethM hstatic hkP hinitP hmi.2.2.1 (g := F0 K.2.2.2.2.1 pc la (As.reverse ++ st)) rfl (argsL := As) (rest := st) (hmi.len hA _ hsigM) rfl (by rw [hk.2.1]; exact hd)
    exact callGo hk hmi hM hT h1 h2 h3 X₁ hd hnamed hst hfr hlo hmx hce hsl kk kt (fun target h => hstep₁ _ fun acts => by rw [doInvoke_state]; exact h)
theorem r_callVT {As : List Value} {st0 : List Value} {a ci : Nat} {i : Ix} {fs : List Value} (hk : Ok G K own cc nL ret tb) (hmi : Mi y cw maxL nA) (hM : Mt G y cw d mc ms (.ref a :: As) ad w post thr) (hs : Cond.instanceMethod y ∈ tw ∧ Cond.selects y.cls y y ∈ tw) (hl : Cond.methodLink own idx y ∈ tw ∨ ∃ host, Cond.methodLinkNest own idx y host ∈ tw) (hd : decode cc pc = .ok (.invokevirtual idx, 3) ∧ pc + 3 = q)
    (he : st0 = As.reverse ++ .ref a :: st) (hA : As.length = nA) (hst : (st.map fun v => v.category).sum ≤ 8) (hfr : d + 1 ≤ K.2.2.1.frames) (hlo : 34 * (d + 1) ≤ K.2.2.1.locals) (hce : cs + mc ≤ K.2.2.1.cells) (hsl : ss + ms ≤ K.2.2.1.slots)
    (kk : ∀ v ad' w', post v ad' w' → V G K nL Q (cs + mc) (ss + ms) q ls (v.toList ++ st) ad' w') (kt : ∀ C ad' w', thr C ad' w' → VT G K nL Q (cs + mc) (ss + ms) pc ls C ad' w') (hw : w i = some (.inl (ci, fs))) (ha : ad i = a) (hci : cls[ci]?.map (fun r => r.1) = some y.cls) (hmx : Nat.ble maxL 15 = true := by rfl) : V G K nL Q cs ss pc ls st0 ad w := by
  obtain ⟨hd, rfl⟩ := hd
  subst he
  subst ha
  intro H locs la h1 h2 h3 T hT X
  obtain ⟨mk, methM, hnamed, hmethM, hstM, habM⟩ := Cond.instanceMethod_spec (hk.ts _ hs.1)
  obtain ⟨mk', methM', cM, hnamed', hmethM', hcM, -, hsigM⟩ := hmi.at hk.2.2.2.2.1.1
  cases hnamed.symm.trans hnamed'
  cases hmethM.symm.trans hmethM'
  obtain ⟨⟨r, g0, cellB, g1, g2, g3, -⟩, -⟩ := h1.1 i _ hw
  rw [g0] at hci
  have hrC : r.1 = y.cls := Option.some.inj hci
  have hcls : K.2.2.2.1.vm.findClass y.cls = some cellB.cls := by rw [g2, ← hrC]; exact (hk.kk.1 ci r g0).2.1
  obtain ⟨c2, r2, m2, q1, q2, q3, q4, kP, hkP, hkPi⟩ := Cond.selects_spec (hk.ts _ hs.2)
  cases hcls.symm.trans q1
  cases (State.methodFound?_of_named hnamed hmi.2.2.1).symm.trans q2
  cases hnamed.symm.trans q3
  have hselP : selectMethod K.2.1.platform K.2.2.2.1.vm cellB.cls mk = .method mk := by rw [Launch.admits_selectMethod X.admits]; exact q4
  rcases hl with hl | ⟨host, hl⟩
  · obtain ⟨vm₁, X₁, hstep₁⟩ := X.invokevirtual hk.1 hk.2.2.2.1 (hk.ts _ hl) hnamed hmethM hstM hkP hkPi hmi.2.2.1 (a := ad i) (cell := cellB) (by rw [hT]; exact g1) (fun z h => by rw [g3] at h; cases h) hselP hmethM habM hkP hkPi (g := F0 K.2.2.2.2.1 pc la (As.reverse ++ .ref (ad i) :: st)) rfl (argsL := As) (rest := st) (hmi.len hA _ hsigM) rfl (by rw [hk.2.1]; exact hd)
    exact callGo hk hmi hM hT h1 h2 h3 X₁ hd hnamed hst hfr hlo hmx hce hsl kk kt (fun target h => hstep₁ _ fun acts => by rw [doInvoke_state]; exact h)
  · obtain ⟨vm₁, X₁, hstep₁⟩ := X.invokevirtualNest hk.1 hk.2.2.2.1 (hk.ts _ hl) hnamed hmethM hstM hkP hkPi hmi.2.2.1 (a := ad i) (cell := cellB) (by rw [hT]; exact g1) (fun z h => by rw [g3] at h; cases h) hselP hmethM habM hkP hkPi (g := F0 K.2.2.2.2.1 pc la (As.reverse ++ .ref (ad i) :: st)) rfl (argsL := As) (rest := st) (hmi.len hA _ hsigM) rfl (by rw [hk.2.1]; exact hd)
    exact callGo hk hmi hM hT h1 h2 h3 X₁ hd hnamed hst hfr hlo hmx hce hsl kk kt (fun target h => hstep₁ _ fun acts => by rw [doInvoke_state]; exact h)
theorem r_callIT {As : List Value} {st0 : List Value} {a : Nat} {bytes : ByteArray} (hk : Ok G K own cc nL ret tb) (hmi : Mi y (.code y bytes maxL none) maxL nA) (hM : Mt G y (.code y bytes maxL none) d mc ms (.ref a :: As) ad w post thr) (hs : Cond.instanceMethod y ∈ tw ∧ y.name = "<init>") (hl : Cond.methodLink own idx y ∈ tw ∨ ∃ host, Cond.methodLinkNest own idx y host ∈ tw) (hd : decode cc pc = .ok (.invokespecial idx, 3) ∧ pc + 3 = q)
    (he : st0 = As.reverse ++ .ref a :: st) (hA : As.length = nA) (hst : (st.map fun v => v.category).sum ≤ 8) (hfr : d + 1 ≤ K.2.2.1.frames) (hlo : 34 * (d + 1) ≤ K.2.2.1.locals) (hce : cs + mc ≤ K.2.2.1.cells) (hsl : ss + ms ≤ K.2.2.1.slots)
    (kk : ∀ v ad' w', post v ad' w' → V G K nL Q (cs + mc) (ss + ms) q ls (v.toList ++ st) ad' w') (kt : ∀ C ad' w', thr C ad' w' → VT G K nL Q (cs + mc) (ss + ms) pc ls C ad' w') (hmx : Nat.ble maxL 15 = true := by rfl) : V G K nL Q cs ss pc ls st0 ad w := by
  obtain ⟨hd, rfl⟩ := hd
  subst he
  intro H locs la h1 h2 h3 T hT X
  have hpl : K.2.1.platform.magicAccessors = ({} : Platform).magicAccessors := by rw [X.admits.platform]
  have hcode := hk.ts _ hmi.1
  rcases hl with hl | ⟨host, hl⟩
  · obtain ⟨mk, methM, cM, kP, vm₁, hnamed, hmethM, hcodeM, -, hlocalsM, -, hkP, -, hW₁, hstep₁⟩ := Steps.initColdArgs (e := K.2.1) X.here hk.1 X.warmed hpl hk.2.2.2.1 hs.2 hmi.2.2.1 (hk.ts _ hl) (hk.ts _ hs.1) hcode (f := F0 K.2.2.2.2.1 pc la (As.reverse ++ .ref a :: st)) rfl (hmi.len hA) rfl (by rw [hk.2.1]; exact hd)
    exact callGo hk hmi hM hT h1 h2 h3 (X.noted hW₁) hd hnamed hst hfr hlo hmx hce hsl kk kt (fun target h => hstep₁ _ fun acts => by rw [doInvoke_state]; exact h)
  · obtain ⟨mk, methM, cM, kP, vm₁, hnamed, hmethM, hcodeM, -, hlocalsM, -, hkP, -, hW₁, hstep₁⟩ := Steps.initColdArgsNest (e := K.2.1) X.here hk.1 X.warmed hpl hk.2.2.2.1 hs.2 hmi.2.2.1 (hk.ts _ hl) (hk.ts _ hs.1) hcode (f := F0 K.2.2.2.2.1 pc la (As.reverse ++ .ref a :: st)) rfl (hmi.len hA) rfl (by rw [hk.2.1]; exact hd)
    exact callGo hk hmi hM hT h1 h2 h3 (X.noted hW₁) hd hnamed hst hfr hlo hmx hce hsl kk kt (fun target h => hstep₁ _ fun acts => by rw [doInvoke_state]; exact h)
end CALL
/-! friendly forms -/
def Rm (K : Kt) (D C S : Nat) : Prop := D ≤ K.2.2.1.frames ∧ 34 * D ≤ K.2.2.1.locals ∧ C ≤ K.2.2.1.cells ∧ S ≤ K.2.2.1.slots
theorem Rm.of {K : Kt} {D C S : Nat} (h : K.2.2.1 = rmL D C S) : Rm K D C S := by
  unfold Rm
  rw [h]
  exact ⟨Nat.le_refl _, Nat.le_refl _, Nat.le_refl _, Nat.le_refl _⟩
/-- a contract that tells answer and world whole -/
def ex (r : Option Value) (ad' : Ix → Nat) (w' : Wt) : Pst := fun v a u => v = r ∧ a = ad' ∧ u = w'
theorem ex.rf {r : Option Value} {ad' : Ix → Nat} {w' : Wt} : ex r ad' w' r ad' w' := ⟨rfl, rfl, rfl⟩
theorem VT_no {G : Gt} {K : Kt} {nL : Nat} {Q : State → Prop} {cs ss pc : Nat} {ls : List (Option Value)} : ∀ C ad' w', noT C ad' w' → VT G K nL Q cs ss pc ls C ad' w' := fun _ _ _ h => h.elim
section NICE
variable {G : Gt} {K : Kt} {own : String} {cc : ByteArray} {nL : Nat} {ret : Option FieldType} {tb : List ExceptionTableEntry} {Q : State → Prop} {cs ss pc q d D C S mc ms : Nat} {ls : List (Option Value)} {st st0 As : List Value} {ad ad' : Ix → Nat} {w w' : Wt} {post : Pst} {thr : Tst} {y : MethodName} {cw : Cond} {maxL nA idx : Nat} {v : Value}
theorem r_callS (hk : Ok G K own cc nL ret tb) (hR : Rm K D C S) (hmi : Mi y cw maxL nA) (hs : Cond.static y ∈ tw) (hl : Lk own idx y) (hd : decode cc pc = .ok (.invokestatic idx, 3) ∧ pc + 3 = q) (hM : Mt G y cw d 0 0 As ad w (ex (some v) ad' w') noT) (kk : V G K nL Q cs ss q ls (v :: st) ad' w')
    (he : st0 = As.reverse ++ st := by rfl) (hA : As.length = nA := by rfl) (hst : Nat.ble (st.map fun v => v.category).sum 8 = true := by rfl) (hfr : Nat.blt d D = true := by rfl) (hce : Nat.ble cs C = true := by rfl) (hsl : Nat.ble ss S = true := by rfl) (hmx : Nat.ble maxL 15 = true := by rfl) : V G K nL Q cs ss pc ls st0 ad w := by
  have h1 : d < D := Nat.blt_eq.mp hfr
  have h2 := Nat.le_of_ble_eq_true hce
  have h3 := Nat.le_of_ble_eq_true hsl
  obtain ⟨r1, r2, r3, r4⟩ := hR
  exact r_callST hk hmi hM hs hl hd he hA (Nat.le_of_ble_eq_true hst) (by omega) (by omega) (by omega) (by omega) (fun v' a' w'' hp => by obtain ⟨rfl, rfl, rfl⟩ := hp; exact kk) VT_no hmx
theorem r_callSv (hk : Ok G K own cc nL ret tb) (hR : Rm K D C S) (hmi : Mi y cw maxL nA) (hs : Cond.static y ∈ tw) (hl : Lk own idx y) (hd : decode cc pc = .ok (.invokestatic idx, 3) ∧ pc + 3 = q) (hM : Mt G y cw d 0 0 As ad w (ex none ad' w') noT) (kk : V G K nL Q cs ss q ls st ad' w')
    (he : st0 = As.reverse ++ st := by rfl) (hA : As.length = nA := by rfl) (hst : Nat.ble (st.map fun v => v.category).sum 8 = true := by rfl) (hfr : Nat.blt d D = true := by rfl) (hce : Nat.ble cs C = true := by rfl) (hsl : Nat.ble ss S = true := by rfl) (hmx : Nat.ble maxL 15 = true := by rfl) : V G K nL Q cs ss pc ls st0 ad w := by
  have h1 : d < D := Nat.blt_eq.mp hfr
  have h2 := Nat.le_of_ble_eq_true hce
  have h3 := Nat.le_of_ble_eq_true hsl
  obtain ⟨r1, r2, r3, r4⟩ := hR
  exact r_callST hk hmi hM hs hl hd he hA (Nat.le_of_ble_eq_true hst) (by omega) (by omega) (by omega) (by omega) (fun v' a' w'' hp => by obtain ⟨rfl, rfl, rfl⟩ := hp; exact kk) VT_no hmx
theorem r_callV {a ci : Nat} {i : Ix} {fs : List Value} (hk : Ok G K own cc nL ret tb) (hR : Rm K D C S) (hmi : Mi y cw maxL nA) (hs : Iv y) (hl : Lk own idx y) (hd : decode cc pc = .ok (.invokevirtual idx, 3) ∧ pc + 3 = q) (hM : Mt G y cw d 0 0 (.ref a :: As) ad w (ex (some v) ad' w') noT) (kk : V G K nL Q cs ss q ls (v :: st) ad' w')
    (he : st0 = As.reverse ++ .ref a :: st := by rfl) (ha : ad i = a := by rfl) (hw : w i = some (.inl (ci, fs)) := by first | rfl | assumption) (hci : cls[ci]?.map (fun r => r.1) = some y.cls := by rfl) (hA : As.length = nA := by rfl) (hst : Nat.ble (st.map fun v => v.category).sum 8 = true := by rfl) (hfr : Nat.blt d D = true := by rfl) (hce : Nat.ble cs C = true := by rfl) (hsl : Nat.ble ss S = true := by rfl) (hmx : Nat.ble maxL 15 = true := by rfl) : V G K nL Q cs ss pc ls st0 ad w := by
  have h1 : d < D := Nat.blt_eq.mp hfr
  have h2 := Nat.le_of_ble_eq_true hce
  have h3 := Nat.le_of_ble_eq_true hsl
  obtain ⟨r1, r2, r3, r4⟩ := hR
  exact r_callVT hk hmi hM hs hl hd he hA (Nat.le_of_ble_eq_true hst) (by omega) (by omega) (by omega) (by omega) (fun v' a' w'' hp => by obtain ⟨rfl, rfl, rfl⟩ := hp; exact kk) VT_no hw ha hci hmx
theorem r_callVv {a ci : Nat} {i : Ix} {fs : List Value} (hk : Ok G K own cc nL ret tb) (hR : Rm K D C S) (hmi : Mi y cw maxL nA) (hs : Iv y) (hl : Lk own idx y) (hd : decode cc pc = .ok (.invokevirtual idx, 3) ∧ pc + 3 = q) (hM : Mt G y cw d 0 0 (.ref a :: As) ad w (ex none ad' w') noT) (kk : V G K nL Q cs ss q ls st ad' w')
    (he : st0 = As.reverse ++ .ref a :: st := by rfl) (ha : ad i = a := by rfl) (hw : w i = some (.inl (ci, fs)) := by first | rfl | assumption) (hci : cls[ci]?.map (fun r => r.1) = some y.cls := by rfl) (hA : As.length = nA := by rfl) (hst : Nat.ble (st.map fun v => v.category).sum 8 = true := by rfl) (hfr : Nat.blt d D = true := by rfl) (hce : Nat.ble cs C = true := by rfl) (hsl : Nat.ble ss S = true := by rfl) (hmx : Nat.ble maxL 15 = true := by rfl) : V G K nL Q cs ss pc ls st0 ad w := by
  have h1 : d < D := Nat.blt_eq.mp hfr
  have h2 := Nat.le_of_ble_eq_true hce
  have h3 := Nat.le_of_ble_eq_true hsl
  obtain ⟨r1, r2, r3, r4⟩ := hR
  exact r_callVT hk hmi hM hs hl hd he hA (Nat.le_of_ble_eq_true hst) (by omega) (by omega) (by omega) (by omega) (fun v' a' w'' hp => by obtain ⟨rfl, rfl, rfl⟩ := hp; exact kk) VT_no hw ha hci hmx
/-- general posts, no new cells -/
theorem r_callVp {a ci : Nat} {i : Ix} {fs : List Value} (hk : Ok G K own cc nL ret tb) (hR : Rm K D C S) (hmi : Mi y cw maxL nA) (hs : Iv y) (hl : Lk own idx y) (hd : decode cc pc = .ok (.invokevirtual idx, 3) ∧ pc + 3 = q) (hM : Mt G y cw d mc ms (.ref a :: As) ad w post thr) (kk : ∀ v ad' w', post v ad' w' → V G K nL Q (cs + mc) (ss + ms) q ls (v.toList ++ st) ad' w') (kt : ∀ C ad' w', thr C ad' w' → VT G K nL Q (cs + mc) (ss + ms) pc ls C ad' w')
    (he : st0 = As.reverse ++ .ref a :: st := by rfl) (ha : ad i = a := by rfl) (hw : w i = some (.inl (ci, fs)) := by first | rfl | assumption) (hci : cls[ci]?.map (fun r => r.1) = some y.cls := by rfl) (hA : As.length = nA := by rfl) (hst : Nat.ble (st.map fun v => v.category).sum 8 = true := by rfl) (hfr : Nat.blt d D = true := by rfl) (hce : Nat.ble (cs + mc) C = true := by rfl) (hsl : Nat.ble (ss + ms) S = true := by rfl) (hmx : Nat.ble maxL 15 = true := by rfl) : V G K nL Q cs ss pc ls st0 ad w := by
  have h1 : d < D := Nat.blt_eq.mp hfr
  have h2 := Nat.le_of_ble_eq_true hce
  have h3 := Nat.le_of_ble_eq_true hsl
  obtain ⟨r1, r2, r3, r4⟩ := hR
  exact r_callVT hk hmi hM hs hl hd he hA (Nat.le_of_ble_eq_true hst) (by omega) (by omega) (by omega) (by omega) kk kt hw ha hci hmx
theorem r_callSp (hk : Ok G K own cc nL ret tb) (hR : Rm K D C S) (hmi : Mi y cw maxL nA) (hs : Cond.static y ∈ tw) (hl : Lk own idx y) (hd : decode cc pc = .ok (.invokestatic idx, 3) ∧ pc + 3 = q) (hM : Mt G y cw d mc ms As ad w post thr) (kk : ∀ v ad' w', post v ad' w' → V G K nL Q (cs + mc) (ss + ms) q ls (v.toList ++ st) ad' w') (kt : ∀ C ad' w', thr C ad' w' → VT G K nL Q (cs + mc) (ss + ms) pc ls C ad' w')
    (he : st0 = As.reverse ++ st := by rfl) (hA : As.length = nA := by rfl) (hst : Nat.ble (st.map fun v => v.category).sum 8 = true := by rfl) (hfr : Nat.blt d D = true := by rfl) (hce : Nat.ble (cs + mc) C = true := by rfl) (hsl : Nat.ble (ss + ms) S = true := by rfl) (hmx : Nat.ble maxL 15 = true := by rfl) : V G K nL Q cs ss pc ls st0 ad w := by
  have h1 : d < D := Nat.blt_eq.mp hfr
  have h2 := Nat.le_of_ble_eq_true hce
  have h3 := Nat.le_of_ble_eq_true hsl
  obtain ⟨r1, r2, r3, r4⟩ := hR
  exact r_callST hk hmi hM hs hl hd he hA (Nat.le_of_ble_eq_true hst) (by omega) (by omega) (by omega) (by omega) kk kt hmx
theorem r_callIp {a : Nat} {bytes : ByteArray} (hk : Ok G K own cc nL ret tb) (hR : Rm K D C S) (hmi : Mi y (.code y bytes maxL none) maxL nA) (hs : Cond.instanceMethod y ∈ tw ∧ y.name = "<init>") (hl : Lk own idx y) (hd : decode cc pc = .ok (.invokespecial idx, 3) ∧ pc + 3 = q) (hM : Mt G y (.code y bytes maxL none) d mc ms (.ref a :: As) ad w post thr) (kk : ∀ v ad' w', post v ad' w' → V G K nL Q (cs + mc) (ss + ms) q ls (v.toList ++ st) ad' w') (kt : ∀ C ad' w', thr C ad' w' → VT G K nL Q (cs + mc) (ss + ms) pc ls C ad' w')
    (he : st0 = As.reverse ++ .ref a :: st := by rfl) (hA : As.length = nA := by rfl) (hst : Nat.ble (st.map fun v => v.category).sum 8 = true := by rfl) (hfr : Nat.blt d D = true := by rfl) (hce : Nat.ble (cs + mc) C = true := by rfl) (hsl : Nat.ble (ss + ms) S = true := by rfl) (hmx : Nat.ble maxL 15 = true := by rfl) : V G K nL Q cs ss pc ls st0 ad w := by
  have h1 : d < D := Nat.blt_eq.mp hfr
  have h2 := Nat.le_of_ble_eq_true hce
  have h3 := Nat.le_of_ble_eq_true hsl
  obtain ⟨r1, r2, r3, r4⟩ := hR
  exact r_callIT hk hmi hM hs hl hd he hA (Nat.le_of_ble_eq_true hst) (by omega) (by omega) (by omega) (by omega) kk kt hmx
/-- booleans at branches; a long compare and the branch on it -/
theorem r_if_eqB {b : Bool} {off : Int} {t : Nat} (hk : Ok G K own cc nL ret tb) (hd : decode cc pc = .ok (.ifCond .eq off, 3) ∧ pc + 3 = q) (ht : (pc : Int) + off = (t : Int)) (kt : b = false → V G K nL Q cs ss t ls st ad w) (kf : b = true → V G K nL Q cs ss q ls st ad w) : V G K nL Q cs ss pc ls (.int (i32 (b2i b)) :: st) ad w :=
  r_if_eq hk hd ht (b2i_r b) (fun h => kt (b2i_0.mp h)) (fun h => kf (b2i_1.mp h))
theorem r_if_neB {b : Bool} {off : Int} {t : Nat} (hk : Ok G K own cc nL ret tb) (hd : decode cc pc = .ok (.ifCond .ne off, 3) ∧ pc + 3 = q) (ht : (pc : Int) + off = (t : Int)) (kt : b = true → V G K nL Q cs ss t ls st ad w) (kf : b = false → V G K nL Q cs ss q ls st ad w) : V G K nL Q cs ss pc ls (.int (i32 (b2i b)) :: st) ad w :=
  r_if_ne hk hd ht (b2i_r b) (fun h => kt (b2i_1.mp h)) (fun h => kf (b2i_0.mp h))
theorem r_icmp_eqB {a b : Bool} {off : Int} {t : Nat} (hk : Ok G K own cc nL ret tb) (hd : decode cc pc = .ok (.if_icmp .eq off, 3) ∧ pc + 3 = q) (ht : (pc : Int) + off = (t : Int)) (kt : a = b → V G K nL Q cs ss t ls st ad w) (kf : a ≠ b → V G K nL Q cs ss q ls st ad w) : V G K nL Q cs ss pc ls (.int (i32 (b2i b)) :: .int (i32 (b2i a)) :: st) ad w :=
  r_icmp_eq hk hd ht (b2i_r a) (b2i_r b) (fun h => kt (by revert h; cases a <;> cases b <;> decide)) (fun h => kf (by revert h; cases a <;> cases b <;> decide))
theorem r_icmp_neB {a b : Bool} {off : Int} {t : Nat} (hk : Ok G K own cc nL ret tb) (hd : decode cc pc = .ok (.if_icmp .ne off, 3) ∧ pc + 3 = q) (ht : (pc : Int) + off = (t : Int)) (kt : a ≠ b → V G K nL Q cs ss t ls st ad w) (kf : a = b → V G K nL Q cs ss q ls st ad w) : V G K nL Q cs ss pc ls (.int (i32 (b2i b)) :: .int (i32 (b2i a)) :: st) ad w :=
  r_icmp_ne hk hd ht (b2i_r a) (b2i_r b) (fun h => kt (by revert h; cases a <;> cases b <;> decide)) (fun h => kf (by revert h; cases a <;> cases b <;> decide))
theorem r_lc_lt {x y off : Int} {t q0 : Nat} (hk : Ok G K own cc nL ret tb) (h0 : decode cc pc = .ok (.lcmp, 1) ∧ pc + 1 = q0) (hd : decode cc q0 = .ok (.ifCond .lt off, 3) ∧ q0 + 3 = q) (ht : (q0 : Int) + off = (t : Int)) (hx : -9223372036854775808 ≤ x ∧ x < 9223372036854775808) (hy : -9223372036854775808 ≤ y ∧ y < 9223372036854775808) (kt : x < y → V G K nL Q cs ss t ls st ad w) (kf : ¬ (x < y) → V G K nL Q cs ss q ls st ad w) : V G K nL Q cs ss pc ls (.long (i64 y) :: .long (i64 x) :: st) ad w :=
  r_lcmp hk h0 hx hy (r_if_lt hk hd ht (icmp_r x y) (fun h => kt ((icmp_lt0 x y).mp h)) (fun h => kf (fun z => h ((icmp_lt0 x y).mpr z))))
theorem r_lc_ge {x y off : Int} {t q0 : Nat} (hk : Ok G K own cc nL ret tb) (h0 : decode cc pc = .ok (.lcmp, 1) ∧ pc + 1 = q0) (hd : decode cc q0 = .ok (.ifCond .ge off, 3) ∧ q0 + 3 = q) (ht : (q0 : Int) + off = (t : Int)) (hx : -9223372036854775808 ≤ x ∧ x < 9223372036854775808) (hy : -9223372036854775808 ≤ y ∧ y < 9223372036854775808) (kt : x ≥ y → V G K nL Q cs ss t ls st ad w) (kf : ¬ (x ≥ y) → V G K nL Q cs ss q ls st ad w) : V G K nL Q cs ss pc ls (.long (i64 y) :: .long (i64 x) :: st) ad w :=
  r_lcmp hk h0 hx hy (r_if_ge hk hd ht (icmp_r x y) (fun h => kt ((icmp_ge0 x y).mp h)) (fun h => kf (fun z => h ((icmp_ge0 x y).mpr z))))
theorem r_lc_gt {x y off : Int} {t q0 : Nat} (hk : Ok G K own cc nL ret tb) (h0 : decode cc pc = .ok (.lcmp, 1) ∧ pc + 1 = q0) (hd : decode cc q0 = .ok (.ifCond .gt off, 3) ∧ q0 + 3 = q) (ht : (q0 : Int) + off = (t : Int)) (hx : -9223372036854775808 ≤ x ∧ x < 9223372036854775808) (hy : -9223372036854775808 ≤ y ∧ y < 9223372036854775808) (kt : x > y → V G K nL Q cs ss t ls st ad w) (kf : ¬ (x > y) → V G K nL Q cs ss q ls st ad w) : V G K nL Q cs ss pc ls (.long (i64 y) :: .long (i64 x) :: st) ad w :=
  r_lcmp hk h0 hx hy (r_if_gt hk hd ht (icmp_r x y) (fun h => kt ((icmp_gt0 x y).mp h)) (fun h => kf (fun z => h ((icmp_gt0 x y).mpr z))))
theorem r_lc_le {x y off : Int} {t q0 : Nat} (hk : Ok G K own cc nL ret tb) (h0 : decode cc pc = .ok (.lcmp, 1) ∧ pc + 1 = q0) (hd : decode cc q0 = .ok (.ifCond .le off, 3) ∧ q0 + 3 = q) (ht : (q0 : Int) + off = (t : Int)) (hx : -9223372036854775808 ≤ x ∧ x < 9223372036854775808) (hy : -9223372036854775808 ≤ y ∧ y < 9223372036854775808) (kt : x ≤ y → V G K nL Q cs ss t ls st ad w) (kf : ¬ (x ≤ y) → V G K nL Q cs ss q ls st ad w) : V G K nL Q cs ss pc ls (.long (i64 y) :: .long (i64 x) :: st) ad w :=
  r_lcmp hk h0 hx hy (r_if_le hk hd ht (icmp_r x y) (fun h => kt ((icmp_le0 x y).mp h)) (fun h => kf (fun z => h ((icmp_le0 x y).mpr z))))
theorem r_lc_eq {x y off : Int} {t q0 : Nat} (hk : Ok G K own cc nL ret tb) (h0 : decode cc pc = .ok (.lcmp, 1) ∧ pc + 1 = q0) (hd : decode cc q0 = .ok (.ifCond .eq off, 3) ∧ q0 + 3 = q) (ht : (q0 : Int) + off = (t : Int)) (hx : -9223372036854775808 ≤ x ∧ x < 9223372036854775808) (hy : -9223372036854775808 ≤ y ∧ y < 9223372036854775808) (kt : x = y → V G K nL Q cs ss t ls st ad w) (kf : ¬ (x = y) → V G K nL Q cs ss q ls st ad w) : V G K nL Q cs ss pc ls (.long (i64 y) :: .long (i64 x) :: st) ad w :=
  r_lcmp hk h0 hx hy (r_if_eq hk hd ht (icmp_r x y) (fun h => kt ((icmp_eq0 x y).mp h)) (fun h => kf (fun z => h ((icmp_eq0 x y).mpr z))))
theorem r_lc_ne {x y off : Int} {t q0 : Nat} (hk : Ok G K own cc nL ret tb) (h0 : decode cc pc = .ok (.lcmp, 1) ∧ pc + 1 = q0) (hd : decode cc q0 = .ok (.ifCond .ne off, 3) ∧ q0 + 3 = q) (ht : (q0 : Int) + off = (t : Int)) (hx : -9223372036854775808 ≤ x ∧ x < 9223372036854775808) (hy : -9223372036854775808 ≤ y ∧ y < 9223372036854775808) (kt : x ≠ y → V G K nL Q cs ss t ls st ad w) (kf : x = y → V G K nL Q cs ss q ls st ad w) : V G K nL Q cs ss pc ls (.long (i64 y) :: .long (i64 x) :: st) ad w :=
  r_lcmp hk h0 hx hy (r_if_ne hk hd ht (icmp_r x y) (fun h => kt (fun z => h ((icmp_eq0 x y).mpr z))) (fun h => kf ((icmp_eq0 x y).mp h)))
end NICE
theorem Mt.to {G : Gt} {y : MethodName} {d mc ms nL : Nat} {cc : ByteArray} {ret : Option FieldType} {av : List Value} (ls : List (Option Value)) {ad : Ix → Nat} {w : Wt} {post : Pst} {thr : Tst} (body : ∀ K : Kt, Ok G K y.cls cc nL ret [] → Rm K d mc ms → K.2.2.2.2.2.2.2.1.name = y.name → V G K nL (QE G K post thr mc ms) 0 0 0 ls [] ad w) (hy : plainName y.cls = true := by decide)
    (hL : Nat.ble (lg_sl av).length nL = true := by rfl) (hl : ent nL av = ls := by rfl) : Mt G y (.code y cc nL ret) d mc ms av ad w post thr := Mt.of hy hL hl (fun K hk hR hn => body K hk (Rm.of hR) hn)
theorem Mt.toT {G : Gt} {y : MethodName} {d mc ms nL : Nat} {cc : ByteArray} {ret : Option FieldType} {hh : List (Nat × Nat × Nat × Nat)} {av : List Value} (ls : List (Option Value)) {ad : Ix → Nat} {w : Wt} {post : Pst} {thr : Tst} (body : ∀ K : Kt, Ok G K y.cls cc nL ret (tableOf hh) → Rm K d mc ms → K.2.2.2.2.2.2.2.1.name = y.name → V G K nL (QE G K post thr mc ms) 0 0 0 ls [] ad w) (hy : plainName y.cls = true := by decide)
    (hL : Nat.ble (lg_sl av).length nL = true := by rfl) (hl : ent nL av = ls := by rfl) : Mt G y (.codeWith y cc nL ret hh) d mc ms av ad w post thr := Mt.ofT hy hL hl (fun K hk hR hn => body K hk (Rm.of hR) hn)
