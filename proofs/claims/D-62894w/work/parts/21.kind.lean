/-! Kind: ordinal, kind, accesses, reads, takes; small statics -/
def y_Ord : MethodName := ⟨"java/lang/Enum", "ordinal", "()I"⟩
abbrev b_Ord : ByteArray := prog_10_method_2_code
abbrev w_Ord : Cond := .code y_Ord b_Ord 1 (some .int)
set_option maxRecDepth 100000 in
theorem m_Ord : Mi y_Ord w_Ord 1 0 := ⟨tw_mem 474 rfl rfl, tw_mem 13 (by decide +kernel) rfl, by decide, by decide +kernel, _, _, Or.inl rfl⟩
theorem d_Ord : dk b_Ord [(0, .aload_n 0, 1, 1), (1, .getfield 7, 3, 4), (4, .ireturn, 1, 5)] = true := by decide +kernel
theorem l_Ord : Cond.fieldLink "java/lang/Enum" 7 "java/lang/Enum" "ordinal" "I" ∈ tw := tw_mem 970 (by decide +kernel) rfl
theorem kF_at : ∀ k, k < 13 → ([0, 1, 2, 3, 4, 5, 6, 7, 8, 9, 10, 11, 12] : List Int32).getD k 0 = i32 (k : Nat) := by decide
theorem c_Ord (G : Gt) {ad : Ix → Nat} {w : Wt} {k : Nat} (hk0 : k < 13) : Mt G y_Ord w_Ord 0 0 0 [.ref (G.2.2.2.1 k)] ad w (ex (some (.int (i32 (k : Nat)))) ad w) noT := by
  refine Mt.to [some (.ref (G.2.2.2.1 k))] (fun K hk hR hin => ?_)
  refine r_aload_n (i := 0) hk (dk_at d_Ord 0 rfl) rfl rfl ?_
  have key : V G K 1 (QE G K (ex (some (.int (i32 (k : Nat)))) ad w) noT 0 0) 0 0 4 [some (.ref (G.2.2.2.1 k))] [.int (i32 (k : Nat))] ad w := r_iret hk (dk_at d_Ord 2 rfl) ex.rf
  intro H locs la h1 h2 h3
  have hd := (dk_at d_Ord 1 (pc := 1) (n := 3) (q := 4) rfl).1
  refine va_getE (q := ("java/lang/Enum", "ordinal", "I", [0, 1, 2, 3, 4, 5, 6, 7, 8, 9, 10, 11, 12])) hk.1 hk.2.1 hk.2.2.2.2.1.2.2.2.1 hk0 h2 hk.2.2.2.1 List.mem_cons_self (hk.ts _ l_Ord) (fun _ h => h) hd ?_
  rw [kF_at k hk0]
  exact key H locs la h1 h2 h3
theorem l_Ord1 : Cond.methodLink "DrumMachine" 49 ⟨"DrumMachine$Kind", "ordinal", "()I"⟩ ∈ tw := tw_mem 469 (by decide +kernel) rfl
theorem l_Ord2 : Cond.sameMethod "DrumMachine$Kind" "java/lang/Enum" "ordinal" "()I" ∈ tw := tw_mem 470 (by decide +kernel) rfl
theorem l_Ord3 : Cond.selects "DrumMachine$Kind" ⟨"DrumMachine$Kind", "ordinal", "()I"⟩ y_Ord ∈ tw := tw_mem 472 (by decide +kernel) rfl
theorem l_Ord4 : Cond.instanceMethod y_Ord ∈ tw := tw_mem 473 (by decide +kernel) rfl
theorem l_Ord5 : w_Ord ∈ tw := m_Ord.1
theorem r_ord {G : Gt} {K : Kt} {cc : ByteArray} {nL : Nat} {ret : Option FieldType} {tb : List ExceptionTableEntry} {Q : State → Prop} {D C S cs ss pc q k : Nat} {ls : List (Option Value)} {st : List Value} {ad : Ix → Nat} {w : Wt} (hk : Ok G K "DrumMachine" cc nL ret tb) (hR : Rm K D C S) (hd : decode cc pc = .ok (.invokevirtual 49, 3) ∧ pc + 3 = q) (hk0 : k < 13) (kk : V G K nL Q cs ss q ls (.int (i32 (k : Nat)) :: st) ad w)
    (hst : Nat.ble (st.map fun v => v.category).sum 8 = true := by rfl) (hfr : Nat.blt 0 D = true := by rfl) (hce : Nat.ble cs C = true := by rfl) (hsl : Nat.ble ss S = true := by rfl) : V G K nL Q cs ss pc ls (.ref (G.2.2.2.1 k) :: st) ad w := by
  obtain ⟨hd, rfl⟩ := hd
  have f1 : 0 < D := Nat.blt_eq.mp hfr
  have f2 := Nat.le_of_ble_eq_true hce
  have f3 := Nat.le_of_ble_eq_true hsl
  obtain ⟨r1, r2, r3, r4⟩ := hR
  intro H locs la h1 h2 h3 T hT X
  obtain ⟨cellB, g1, g2, g3⟩ := va_recvE hk.2.2.2.2.1.2.2.2.1 hk0 h2
  obtain ⟨r0, r, hn, hrm, hstR, hsigR⟩ := va_Decl.of (hk.ts _ l_Ord4) (hk.ts _ l_Ord5)
  obtain ⟨cn, ck, r1', hcn, hck, hni, hf, hn1⟩ := Cond.sameMethod_found (hk.ts _ l_Ord2)
  cases hn.symm.trans hn1
  obtain ⟨mk, methM, hnamed, hmethM, -, habM⟩ := Cond.instanceMethod_spec (hk.ts _ l_Ord4)
  obtain ⟨c2, r2', m2, q1, q2, q3, q4, kP, hkP, hkPi⟩ := Cond.selects_spec (hk.ts _ l_Ord3)
  cases g3.symm.trans q1
  cases hf.symm.trans q2
  cases hnamed.symm.trans q3
  have hselP : selectMethod K.2.1.platform K.2.2.2.1.vm cellB.cls r0 = .method mk := by rw [Launch.admits_selectMethod X.admits]; exact q4
  obtain ⟨vm₁, X₁, hstep₁⟩ := X.invokevirtualUp hk.1 hk.2.2.2.1 (hk.ts _ l_Ord1) (hk.ts _ l_Ord2) (by decide) hn hrm hstR (a := G.2.2.2.1 k) (cell := cellB) (by rw [hT]; exact g1)
    (fun z h => by rw [h] at g2; cases g2) hselP hmethM habM hkP hkPi (g := F0 K.2.2.2.2.1 pc la (.ref (G.2.2.2.1 k) :: st)) rfl (argsL := []) (rest := st) (m_Ord.len rfl _ hsigR) rfl (by rw [hk.2.1]; exact hd)
  exact callGo hk m_Ord (c_Ord G hk0 (ad := ad) (w := w)) hT h1 h2 h3 X₁ hd hnamed (Nat.le_of_ble_eq_true hst) (by omega) (by omega) rfl (by omega) (by omega) (fun v' a' w'' hp => by obtain ⟨rfl, rfl, rfl⟩ := hp; exact kk) VT_no (fun target h => hstep₁ _ fun acts => by rw [doInvoke_state]; exact h)

/-- operations and their kinds -/
def kT : List (Option Nat) := [some 0, some 1, none, none, none, none, none, none, none, none, some 2, some 2, none, none, some 6, some 2, some 2, none, none, some 5, some 8, some 8, some 8, none, some 8, none, none, none, none, none, some 11, some 11, none, none, none, some 11, none, none, none, none, none, none, none, none, some 12, some 12, some 12, some 12, none, none, none, none, none, none, none, none, none, none, none, none, some 3, some 3, none, none, none, some 3, some 3, some 3, none, some 4, some 9, some 10, none, none, none, none, none, none, none, none, none, none, none, none, some 7, none, none, none, none, none, some 12, some 12, some 12, some 12, some 12, some 12, some 12, some 12, some 12, some 12]
def kn (n : Nat) : Option Nat := (kT[n]?).join
def knd (z : Int) : Option Nat := if z < 0 then none else kn z.toNat
theorem kn_big {n : Nat} (h : 100 ≤ n) : kn n = none := by
  unfold kn
  rw [List.getElem?_eq_none (by show 100 ≤ n; exact h)]
  rfl
theorem kn_90 : ∀ n, n < 100 → 85 ≤ n → kn n = if n < 90 then none else some 12 := by decide
theorem kn_lt {n k : Nat} (h : kn n = some k) : k < 13 ∧ n < 100 := by
  have hn : n < 100 := by
    rcases Nat.lt_or_ge n 100 with h1 | h1
    · exact h1
    · rw [kn_big h1] at h; cases h
  have : ∀ n, n < 100 → ∀ k, kn n = some k → k < 13 := by
    intro n hn
    have h9 : ∀ n, n < 100 → (kn n).all (fun k => decide (k < 13)) = true := by decide
    intro k e
    have := h9 n hn
    rw [e] at this
    simpa using this
  exact ⟨this n hn k h, hn⟩
def kv (G : Gt) : Option Nat → Value
  | none => .null
  | some k => .ref (G.2.2.2.1 k)
theorem kv_or (G : Gt) (x : Option Nat) : kv G x = .null ∨ ∃ a, kv G x = .ref a := by cases x with
  | none => exact Or.inl rfl
  | some k => exact Or.inr ⟨_, rfl⟩
abbrev kO : Array Int := #[355, 359, 407, 407, 407, 407, 407, 407, 407, 407, 363, 363, 407, 407, 379, 363, 363, 407, 407, 375, 387, 387, 387, 407, 387, 407, 407, 407, 407, 407, 399, 399, 407, 407, 407, 399, 407, 407, 407, 407, 407, 407, 407, 407, 403, 403, 403, 403, 407, 407, 407, 407, 407, 407, 407, 407, 407, 407, 407, 407, 367, 367, 407, 407, 407, 367, 367, 367, 407, 371, 391, 395, 407, 407, 407, 407, 407, 407, 407, 407, 407, 407, 407, 407, 383]
set_option maxRecDepth 100000 in
theorem kO_at : ∀ n, n < 85 → (kO[n]?, kn n) ∈ ([(some 355, some 0), (some 359, some 1), (some 363, some 2), (some 367, some 3), (some 371, some 4), (some 375, some 5), (some 379, some 6), (some 383, some 7), (some 387, some 8), (some 391, some 9), (some 395, some 10), (some 399, some 11), (some 403, some 12), (some 407, none)] : List (Option Int × Option Nat)) := by decide
theorem c_Mach_kind (G : Gt) {ad : Ix → Nat} {w : Wt} {z : Int} (hz : -2147483648 ≤ z ∧ z < 2147483648) : Mt G y_Mach_kind w_Mach_kind 0 0 0 [.int (i32 z)] ad w (ex (some (kv G (knd z))) ad w) noT := by
  refine Mt.to [some (.int (i32 z))] (fun K hk hR hin => ?_)
  have dflt : (z < 0 ∨ 84 < z ∨ knd z = none) → V G K 1 (QE G K (ex (some (kv G (knd z))) ad w) noT 0 0) 0 0 408 [some (.int (i32 z))] [] ad w := by
    intro hdf
    have e90 : 90 ≤ z ∧ z ≤ 99 → knd z = some 12 := fun h => by
      unfold knd
      rw [if_neg (by omega), kn_90 _ (by omega) (by omega), if_neg (by omega)]
    have e0 : ¬ (90 ≤ z ∧ z ≤ 99) → knd z = none := fun h => by
      rcases hdf with h1 | h1 | h1
      · unfold knd; rw [if_pos h1]
      · unfold knd
        rw [if_neg (by omega)]
        rcases Nat.lt_or_ge z.toNat 100 with h2 | h2
        · rw [kn_90 _ h2 (by omega), if_pos (by omega)]
        · exact kn_big h2
      · exact h1
    refine r_iload_n (i := 0) hk (dk_at D_Mach_kind 28 rfl) rfl rfl ?_
    refine r_bipush hk (dk_at D_Mach_kind 29 rfl) (by decide) ?_
    refine r_icmp_lt (t := 426) hk (dk_at D_Mach_kind 30 rfl) (by decide) (by omega) (by omega) (fun c_411 => ?_) (fun c_411 => ?_)
    · refine r_null hk (dk_at D_Mach_kind 36 rfl) ?_
      first | (rw [e90 ⟨by omega, by omega⟩]; exact r_aret hk (dk_at D_Mach_kind 37 rfl) (Or.inr ⟨_, rfl⟩) ex.rf) | (rw [e0 (by omega)]; exact r_aret hk (dk_at D_Mach_kind 37 rfl) (Or.inl rfl) ex.rf)
    · refine r_iload_n (i := 0) hk (dk_at D_Mach_kind 31 rfl) rfl rfl ?_
      refine r_bipush hk (dk_at D_Mach_kind 32 rfl) (by decide) ?_
      refine r_icmp_gt (t := 426) hk (dk_at D_Mach_kind 33 rfl) (by decide) (by omega) (by omega) (fun c_417 => ?_) (fun c_417 => ?_)
      · refine r_null hk (dk_at D_Mach_kind 36 rfl) ?_
        first | (rw [e90 ⟨by omega, by omega⟩]; exact r_aret hk (dk_at D_Mach_kind 37 rfl) (Or.inr ⟨_, rfl⟩) ex.rf) | (rw [e0 (by omega)]; exact r_aret hk (dk_at D_Mach_kind 37 rfl) (Or.inl rfl) ex.rf)
      · refine r_getK (k := 12) hk kf_Mach_40 rfl (dk_at D_Mach_kind 34 rfl) ?_
        refine r_goto (t := 427) hk (dk_at D_Mach_kind 35 rfl) (by decide) ?_
        first | (rw [e90 ⟨by omega, by omega⟩]; exact r_aret hk (dk_at D_Mach_kind 37 rfl) (Or.inr ⟨_, rfl⟩) ex.rf) | (rw [e0 (by omega)]; exact r_aret hk (dk_at D_Mach_kind 37 rfl) (Or.inl rfl) ex.rf)
  refine r_iload_n (i := 0) hk (dk_at D_Mach_kind 0 rfl) rfl rfl ?_
  by_cases hin : 0 ≤ z ∧ z ≤ 84
  · have ez : knd z = kn z.toNat := by unfold knd; rw [if_neg (by omega)]
    have hz9 := kO_at z.toNat (by omega)
    simp only [List.mem_cons, Prod.mk.injEq, List.not_mem_nil, or_false] at hz9
    rcases hz9 with ⟨e1, e2⟩ | ⟨e1, e2⟩ | ⟨e1, e2⟩ | ⟨e1, e2⟩ | ⟨e1, e2⟩ | ⟨e1, e2⟩ | ⟨e1, e2⟩ | ⟨e1, e2⟩ | ⟨e1, e2⟩ | ⟨e1, e2⟩ | ⟨e1, e2⟩ | ⟨e1, e2⟩ | ⟨e1, e2⟩ | ⟨e1, e2⟩

    · refine r_tableIn (t := 356) hk (dk_at D_Mach_kind 1 rfl) hz hin.1 hin.2 (by rw [Int.sub_zero]; exact e1) (by decide) ?_
      rw [ez, e2]
      refine r_getK (k := 0) hk kf_Mach_1 rfl (dk_at D_Mach_kind 2 rfl) ?_
      exact r_aret hk (dk_at D_Mach_kind 3 rfl) (Or.inr ⟨_, rfl⟩) ex.rf
    · refine r_tableIn (t := 360) hk (dk_at D_Mach_kind 1 rfl) hz hin.1 hin.2 (by rw [Int.sub_zero]; exact e1) (by decide) ?_
      rw [ez, e2]
      refine r_getK (k := 1) hk kf_Mach_7 rfl (dk_at D_Mach_kind 4 rfl) ?_
      exact r_aret hk (dk_at D_Mach_kind 5 rfl) (Or.inr ⟨_, rfl⟩) ex.rf
    · refine r_tableIn (t := 364) hk (dk_at D_Mach_kind 1 rfl) hz hin.1 hin.2 (by rw [Int.sub_zero]; exact e1) (by decide) ?_
      rw [ez, e2]
      refine r_getK (k := 2) hk kf_Mach_10 rfl (dk_at D_Mach_kind 6 rfl) ?_
      exact r_aret hk (dk_at D_Mach_kind 7 rfl) (Or.inr ⟨_, rfl⟩) ex.rf
    · refine r_tableIn (t := 368) hk (dk_at D_Mach_kind 1 rfl) hz hin.1 hin.2 (by rw [Int.sub_zero]; exact e1) (by decide) ?_
      rw [ez, e2]
      refine r_getK (k := 3) hk kf_Mach_13 rfl (dk_at D_Mach_kind 8 rfl) ?_
      exact r_aret hk (dk_at D_Mach_kind 9 rfl) (Or.inr ⟨_, rfl⟩) ex.rf
    · refine r_tableIn (t := 372) hk (dk_at D_Mach_kind 1 rfl) hz hin.1 hin.2 (by rw [Int.sub_zero]; exact e1) (by decide) ?_
      rw [ez, e2]
      refine r_getK (k := 4) hk kf_Mach_16 rfl (dk_at D_Mach_kind 10 rfl) ?_
      exact r_aret hk (dk_at D_Mach_kind 11 rfl) (Or.inr ⟨_, rfl⟩) ex.rf
    · refine r_tableIn (t := 376) hk (dk_at D_Mach_kind 1 rfl) hz hin.1 hin.2 (by rw [Int.sub_zero]; exact e1) (by decide) ?_
      rw [ez, e2]
      refine r_getK (k := 5) hk kf_Mach_19 rfl (dk_at D_Mach_kind 12 rfl) ?_
      exact r_aret hk (dk_at D_Mach_kind 13 rfl) (Or.inr ⟨_, rfl⟩) ex.rf
    · refine r_tableIn (t := 380) hk (dk_at D_Mach_kind 1 rfl) hz hin.1 hin.2 (by rw [Int.sub_zero]; exact e1) (by decide) ?_
      rw [ez, e2]
      refine r_getK (k := 6) hk kf_Mach_22 rfl (dk_at D_Mach_kind 14 rfl) ?_
      exact r_aret hk (dk_at D_Mach_kind 15 rfl) (Or.inr ⟨_, rfl⟩) ex.rf
    · refine r_tableIn (t := 384) hk (dk_at D_Mach_kind 1 rfl) hz hin.1 hin.2 (by rw [Int.sub_zero]; exact e1) (by decide) ?_
      rw [ez, e2]
      refine r_getK (k := 7) hk kf_Mach_25 rfl (dk_at D_Mach_kind 16 rfl) ?_
      exact r_aret hk (dk_at D_Mach_kind 17 rfl) (Or.inr ⟨_, rfl⟩) ex.rf
    · refine r_tableIn (t := 388) hk (dk_at D_Mach_kind 1 rfl) hz hin.1 hin.2 (by rw [Int.sub_zero]; exact e1) (by decide) ?_
      rw [ez, e2]
      refine r_getK (k := 8) hk kf_Mach_28 rfl (dk_at D_Mach_kind 18 rfl) ?_
      exact r_aret hk (dk_at D_Mach_kind 19 rfl) (Or.inr ⟨_, rfl⟩) ex.rf
    · refine r_tableIn (t := 392) hk (dk_at D_Mach_kind 1 rfl) hz hin.1 hin.2 (by rw [Int.sub_zero]; exact e1) (by decide) ?_
      rw [ez, e2]
      refine r_getK (k := 9) hk kf_Mach_31 rfl (dk_at D_Mach_kind 20 rfl) ?_
      exact r_aret hk (dk_at D_Mach_kind 21 rfl) (Or.inr ⟨_, rfl⟩) ex.rf
    · refine r_tableIn (t := 396) hk (dk_at D_Mach_kind 1 rfl) hz hin.1 hin.2 (by rw [Int.sub_zero]; exact e1) (by decide) ?_
      rw [ez, e2]
      refine r_getK (k := 10) hk kf_Mach_34 rfl (dk_at D_Mach_kind 22 rfl) ?_
      exact r_aret hk (dk_at D_Mach_kind 23 rfl) (Or.inr ⟨_, rfl⟩) ex.rf
    · refine r_tableIn (t := 400) hk (dk_at D_Mach_kind 1 rfl) hz hin.1 hin.2 (by rw [Int.sub_zero]; exact e1) (by decide) ?_
      rw [ez, e2]
      refine r_getK (k := 11) hk kf_Mach_37 rfl (dk_at D_Mach_kind 24 rfl) ?_
      exact r_aret hk (dk_at D_Mach_kind 25 rfl) (Or.inr ⟨_, rfl⟩) ex.rf
    · refine r_tableIn (t := 404) hk (dk_at D_Mach_kind 1 rfl) hz hin.1 hin.2 (by rw [Int.sub_zero]; exact e1) (by decide) ?_
      rw [ez, e2]
      refine r_getK (k := 12) hk kf_Mach_40 rfl (dk_at D_Mach_kind 26 rfl) ?_
      exact r_aret hk (dk_at D_Mach_kind 27 rfl) (Or.inr ⟨_, rfl⟩) ex.rf
    · refine r_tableIn (t := 408) hk (dk_at D_Mach_kind 1 rfl) hz hin.1 hin.2 (by rw [Int.sub_zero]; exact e1) (by decide) ?_
      exact dflt (Or.inr (Or.inr (ez.trans e2)))
  · refine r_tableOut (t := 408) hk (dk_at D_Mach_kind 1 rfl) hz (by omega) (by decide) ?_
    exact dflt (by omega)
def acs (k : Nat) : Bool := !(Nat.beq k 0) && !(Nat.beq k 1) && !(Nat.beq k 11) && !(Nat.beq k 12)
def rds (k : Nat) : Bool := acs k && !(Nat.beq k 8) && !(Nat.beq k 9) && !(Nat.beq k 7)
theorem nbf {a b : Nat} (h : a ≠ b) : Nat.beq a b = false := by
  cases e : Nat.beq a b with
  | false => rfl
  | true => exact absurd (Nat.eq_of_beq_eq_true e) h
theorem c_Mach_accesses (G : Gt) {ad : Ix → Nat} {w : Wt} {k : Nat} (h13 : k < 13) : Mt G y_Mach_accesses w_Mach_accesses 0 0 0 [.ref (G.2.2.2.1 k)] ad w (ex (some (.int (i32 (b2i (acs k))))) ad w) noT := by
  refine Mt.to [some (.ref (G.2.2.2.1 k))] (fun K hk hR hin => ?_)
  have ne : ∀ a : Nat, ¬ (G.2.2.2.1 k = G.2.2.2.1 a) → k ≠ a := fun a h e => h (by rw [e])
  refine r_aload_n (i := 0) hk (dk_at D_Mach_accesses 0 rfl) rfl rfl ?_
  refine r_getK (k := 0) hk kf_Mach_1 rfl (dk_at D_Mach_accesses 1 rfl) ?_
  refine r_acmp_eq (t := 32) hk (dk_at D_Mach_accesses 2 rfl) (by decide) (fun c_4 => ?_) (fun c_4 => ?_)
  · have e : acs k = false := by rw [kinds_ne hk h13 (by decide) c_4]; rfl
    rw [e]
    refine r_iconst hk (dk_at D_Mach_accesses 14 rfl) ?_
    first | exact r_bret (b := true) hk (dk_at D_Mach_accesses 15 rfl) ex.rf | exact r_bret (b := false) hk (dk_at D_Mach_accesses 15 rfl) ex.rf
  · refine r_aload_n (i := 0) hk (dk_at D_Mach_accesses 3 rfl) rfl rfl ?_
    refine r_getK (k := 1) hk kf_Mach_7 rfl (dk_at D_Mach_accesses 4 rfl) ?_
    refine r_acmp_eq (t := 32) hk (dk_at D_Mach_accesses 5 rfl) (by decide) (fun c_11 => ?_) (fun c_11 => ?_)
    · have e : acs k = false := by rw [kinds_ne hk h13 (by decide) c_11]; rfl
      rw [e]
      refine r_iconst hk (dk_at D_Mach_accesses 14 rfl) ?_
      first | exact r_bret (b := true) hk (dk_at D_Mach_accesses 15 rfl) ex.rf | exact r_bret (b := false) hk (dk_at D_Mach_accesses 15 rfl) ex.rf
    · refine r_aload_n (i := 0) hk (dk_at D_Mach_accesses 6 rfl) rfl rfl ?_
      refine r_getK (k := 11) hk kf_Mach_37 rfl (dk_at D_Mach_accesses 7 rfl) ?_
      refine r_acmp_eq (t := 32) hk (dk_at D_Mach_accesses 8 rfl) (by decide) (fun c_18 => ?_) (fun c_18 => ?_)
      · have e : acs k = false := by rw [kinds_ne hk h13 (by decide) c_18]; rfl
        rw [e]
        refine r_iconst hk (dk_at D_Mach_accesses 14 rfl) ?_
        first | exact r_bret (b := true) hk (dk_at D_Mach_accesses 15 rfl) ex.rf | exact r_bret (b := false) hk (dk_at D_Mach_accesses 15 rfl) ex.rf
      · refine r_aload_n (i := 0) hk (dk_at D_Mach_accesses 9 rfl) rfl rfl ?_
        refine r_getK (k := 12) hk kf_Mach_40 rfl (dk_at D_Mach_accesses 10 rfl) ?_
        refine r_acmp_eq (t := 32) hk (dk_at D_Mach_accesses 11 rfl) (by decide) (fun c_25 => ?_) (fun c_25 => ?_)
        · have e : acs k = false := by rw [kinds_ne hk h13 (by decide) c_25]; rfl
          rw [e]
          refine r_iconst hk (dk_at D_Mach_accesses 14 rfl) ?_
          first | exact r_bret (b := true) hk (dk_at D_Mach_accesses 15 rfl) ex.rf | exact r_bret (b := false) hk (dk_at D_Mach_accesses 15 rfl) ex.rf
        · have e : acs k = true := by unfold acs; rw [nbf (ne _ c_4), nbf (ne _ c_11), nbf (ne _ c_18), nbf (ne _ c_25)]; rfl
          rw [e]
          refine r_iconst hk (dk_at D_Mach_accesses 12 rfl) ?_
          refine r_goto (t := 33) hk (dk_at D_Mach_accesses 13 rfl) (by decide) ?_
          first | exact r_bret (b := true) hk (dk_at D_Mach_accesses 15 rfl) ex.rf | exact r_bret (b := false) hk (dk_at D_Mach_accesses 15 rfl) ex.rf
theorem c_Mach_reads (G : Gt) {ad : Ix → Nat} {w : Wt} {k : Nat} (h13 : k < 13) : Mt G y_Mach_reads w_Mach_reads 1 0 0 [.ref (G.2.2.2.1 k)] ad w (ex (some (.int (i32 (b2i (rds k))))) ad w) noT := by
  refine Mt.to [some (.ref (G.2.2.2.1 k))] (fun K hk hR hin => ?_)
  have ne : ∀ a : Nat, ¬ (G.2.2.2.1 k = G.2.2.2.1 a) → k ≠ a := fun a h e => h (by rw [e])
  refine r_aload_n (i := 0) hk (dk_at D_Mach_reads 0 rfl) rfl rfl ?_
  refine r_callS hk hR m_Mach_accesses s_Mach_accesses ml_Mach_43 (dk_at D_Mach_reads 1 rfl) (c_Mach_accesses G h13) ?_
  refine r_if_eqB (t := 32) hk (dk_at D_Mach_reads 2 rfl) (by decide) (fun c_4 => ?_) (fun c_4 => ?_)
  · have e : rds k = false := by unfold rds; rw [c_4]; rfl
    rw [e]
    refine r_iconst hk (dk_at D_Mach_reads 14 rfl) ?_
    first | exact r_bret (b := true) hk (dk_at D_Mach_reads 15 rfl) ex.rf | exact r_bret (b := false) hk (dk_at D_Mach_reads 15 rfl) ex.rf
  · refine r_aload_n (i := 0) hk (dk_at D_Mach_reads 3 rfl) rfl rfl ?_
    refine r_getK (k := 8) hk kf_Mach_28 rfl (dk_at D_Mach_reads 4 rfl) ?_
    refine r_acmp_eq (t := 32) hk (dk_at D_Mach_reads 5 rfl) (by decide) (fun c_11 => ?_) (fun c_11 => ?_)
    · have e : rds k = false := by rw [kinds_ne hk h13 (by decide) c_11]; rfl
      rw [e]
      refine r_iconst hk (dk_at D_Mach_reads 14 rfl) ?_
      first | exact r_bret (b := true) hk (dk_at D_Mach_reads 15 rfl) ex.rf | exact r_bret (b := false) hk (dk_at D_Mach_reads 15 rfl) ex.rf
    · refine r_aload_n (i := 0) hk (dk_at D_Mach_reads 6 rfl) rfl rfl ?_
      refine r_getK (k := 9) hk kf_Mach_31 rfl (dk_at D_Mach_reads 7 rfl) ?_
      refine r_acmp_eq (t := 32) hk (dk_at D_Mach_reads 8 rfl) (by decide) (fun c_18 => ?_) (fun c_18 => ?_)
      · have e : rds k = false := by rw [kinds_ne hk h13 (by decide) c_18]; rfl
        rw [e]
        refine r_iconst hk (dk_at D_Mach_reads 14 rfl) ?_
        first | exact r_bret (b := true) hk (dk_at D_Mach_reads 15 rfl) ex.rf | exact r_bret (b := false) hk (dk_at D_Mach_reads 15 rfl) ex.rf
      · refine r_aload_n (i := 0) hk (dk_at D_Mach_reads 9 rfl) rfl rfl ?_
        refine r_getK (k := 7) hk kf_Mach_25 rfl (dk_at D_Mach_reads 10 rfl) ?_
        refine r_acmp_eq (t := 32) hk (dk_at D_Mach_reads 11 rfl) (by decide) (fun c_25 => ?_) (fun c_25 => ?_)
        · have e : rds k = false := by rw [kinds_ne hk h13 (by decide) c_25]; rfl
          rw [e]
          refine r_iconst hk (dk_at D_Mach_reads 14 rfl) ?_
          first | exact r_bret (b := true) hk (dk_at D_Mach_reads 15 rfl) ex.rf | exact r_bret (b := false) hk (dk_at D_Mach_reads 15 rfl) ex.rf
        · have e : rds k = true := by unfold rds; rw [c_4, nbf (ne _ c_11), nbf (ne _ c_18), nbf (ne _ c_25)]; rfl
          rw [e]
          refine r_iconst hk (dk_at D_Mach_reads 12 rfl) ?_
          refine r_goto (t := 33) hk (dk_at D_Mach_reads 13 rfl) (by decide) ?_
          first | exact r_bret (b := true) hk (dk_at D_Mach_reads 15 rfl) ex.rf | exact r_bret (b := false) hk (dk_at D_Mach_reads 15 rfl) ex.rf
/-- the time that an operation takes, as far as it does not hang on numbers -/
def tks (k op d : Nat) : Nat := if k = 2 ∨ k = 3 then 2 else if k = 5 ∨ k = 6 then 20 else if k = 9 ∨ k = 10 then 10 else if k = 11 then (if op = 31 then 1 + (if d % 10 = 0 then 10 else d % 10) else d % 10) else 0
theorem tks_le (k op d : Nat) : tks k op d ≤ 20 := by unfold tks; (repeat' split) <;> omega
abbrev tO : Array Int := #[56, 56, 96, 58, 58, 96, 96, 61, 61, 64]
theorem tO_at : ∀ n, n < 10 → (tO[n]? = some 56 ∧ (n + 2 = 2 ∨ n + 2 = 3)) ∨ (tO[n]? = some 58 ∧ (n + 2 = 5 ∨ n + 2 = 6)) ∨ (tO[n]? = some 61 ∧ (n + 2 = 9 ∨ n + 2 = 10)) ∨ (tO[n]? = some 64 ∧ n + 2 = 11) ∨ (tO[n]? = some 96 ∧ (n + 2 = 4 ∨ n + 2 = 7 ∨ n + 2 = 8)) := by decide
theorem c_Mach_takes (G : Gt) {ad : Ix → Nat} {w : Wt} {k op d : Nat} (h13 : k < 13) (hop : op < 1000) (hd : d < 1000000) : Mt G y_Mach_takes w_Mach_takes 1 0 0 [.ref (G.2.2.2.1 k), .int (i32 op), .int (i32 d)] ad w (ex (some (.int (i32 (tks k op d : Nat)))) ad w) noT := by
  refine Mt.to [some (.ref (G.2.2.2.1 k)), some (.int (i32 op)), some (.int (i32 d))] (fun K hk hR hin => ?_)
  refine r_aload_n (i := 0) hk (dk_at D_Mach_takes 0 rfl) rfl rfl ?_
  refine r_ord hk hR (dk_at D_Mach_takes 1 rfl) h13 ?_
  by_cases hi : 2 ≤ k ∧ k ≤ 11
  · obtain ⟨n, rfl⟩ : ∃ n, k = n + 2 := ⟨k - 2, by omega⟩
    have en : (((n + 2 : Nat) : Int) - 2).toNat = n := by omega
    rcases tO_at n (by omega) with ⟨e1, e2⟩ | ⟨e1, e2⟩ | ⟨e1, e2⟩ | ⟨e1, e2⟩ | ⟨e1, e2⟩
    · refine r_tableIn (t := 60) hk (dk_at D_Mach_takes 2 rfl) (by omega) (by omega) (by omega) (by rw [en]; exact e1) (by decide) ?_
      have e : tks (n + 2) op d = 2 := by unfold tks; rw [if_pos e2]
      rw [e]
      refine r_iconst hk (dk_at D_Mach_takes 3 rfl) ?_
      exact r_iret hk (dk_at D_Mach_takes 4 rfl) ex.rf
    · refine r_tableIn (t := 62) hk (dk_at D_Mach_takes 2 rfl) (by omega) (by omega) (by omega) (by rw [en]; exact e1) (by decide) ?_
      have e : tks (n + 2) op d = 20 := by unfold tks; rw [if_neg (by omega), if_pos e2]
      rw [e]
      refine r_bipush hk (dk_at D_Mach_takes 5 rfl) (by decide) ?_
      exact r_iret hk (dk_at D_Mach_takes 6 rfl) ex.rf
    · refine r_tableIn (t := 65) hk (dk_at D_Mach_takes 2 rfl) (by omega) (by omega) (by omega) (by rw [en]; exact e1) (by decide) ?_
      have e : tks (n + 2) op d = 10 := by unfold tks; rw [if_neg (by omega), if_neg (by omega), if_pos e2]
      rw [e]
      refine r_bipush hk (dk_at D_Mach_takes 7 rfl) (by decide) ?_
      exact r_iret hk (dk_at D_Mach_takes 8 rfl) ex.rf
    · refine r_tableIn (t := 68) hk (dk_at D_Mach_takes 2 rfl) (by omega) (by omega) (by omega) (by rw [en]; exact e1) (by decide) ?_
      have e : tks (n + 2) op d = if op = 31 then 1 + (if d % 10 = 0 then 10 else d % 10) else d % 10 := by unfold tks; rw [if_neg (by omega), if_neg (by omega), if_neg (by omega), if_pos e2]
      rw [e]
      refine r_iload_n (i := 1) hk (dk_at D_Mach_takes 9 rfl) rfl rfl ?_
      refine r_bipush hk (dk_at D_Mach_takes 10 rfl) (by decide) ?_
      refine r_icmp_ne (t := 95) hk (dk_at D_Mach_takes 11 rfl) (by decide) (by omega) (by omega) (fun c_71 => ?_) (fun c_71 => ?_)
      · rw [if_neg (by omega)]
        refine r_iload_n (i := 2) hk (dk_at D_Mach_takes 24 rfl) rfl rfl ?_
        refine r_bipush hk (dk_at D_Mach_takes 25 rfl) (by decide) ?_
        refine r_irem hk (dk_at D_Mach_takes 26 rfl) (by omega) (by omega) ?_
        first | exact r_iret hk (dk_at D_Mach_takes 27 rfl) ex.rf | (refine r_topi (x' := ((d % 10 : Nat) : Int)) (by omega) ?_; exact r_iret hk (dk_at D_Mach_takes 27 rfl) ex.rf)
      · refine r_iconst hk (dk_at D_Mach_takes 12 rfl) ?_
        refine r_iload_n (i := 2) hk (dk_at D_Mach_takes 13 rfl) rfl rfl ?_
        refine r_bipush hk (dk_at D_Mach_takes 14 rfl) (by decide) ?_
        refine r_irem hk (dk_at D_Mach_takes 15 rfl) (by omega) (by omega) ?_
        refine r_if_ne (t := 87) hk (dk_at D_Mach_takes 16 rfl) (by decide) (by omega) (fun c_79 => ?_) (fun c_79 => ?_)
        · refine r_iload_n (i := 2) hk (dk_at D_Mach_takes 19 rfl) rfl rfl ?_
          refine r_bipush hk (dk_at D_Mach_takes 20 rfl) (by decide) ?_
          refine r_irem hk (dk_at D_Mach_takes 21 rfl) (by omega) (by omega) ?_
          refine r_iadd hk (dk_at D_Mach_takes 22 rfl) ?_
          refine r_topi (x' := ((1 + if d % 10 = 0 then 10 else d % 10 : Nat) : Int)) (by split <;> omega) ?_
          rw [if_pos (by omega)]
          refine r_goto (t := 99) hk (dk_at D_Mach_takes 23 rfl) (by decide) ?_
          first | exact r_iret hk (dk_at D_Mach_takes 27 rfl) ex.rf | (refine r_topi (x' := ((d % 10 : Nat) : Int)) (by omega) ?_; exact r_iret hk (dk_at D_Mach_takes 27 rfl) ex.rf)
        · refine r_bipush hk (dk_at D_Mach_takes 17 rfl) (by decide) ?_
          refine r_goto (t := 91) hk (dk_at D_Mach_takes 18 rfl) (by decide) ?_
          refine r_iadd hk (dk_at D_Mach_takes 22 rfl) ?_
          refine r_topi (x' := ((1 + if d % 10 = 0 then 10 else d % 10 : Nat) : Int)) (by split <;> omega) ?_
          rw [if_pos (by omega)]
          refine r_goto (t := 99) hk (dk_at D_Mach_takes 23 rfl) (by decide) ?_
          first | exact r_iret hk (dk_at D_Mach_takes 27 rfl) ex.rf | (refine r_topi (x' := ((d % 10 : Nat) : Int)) (by omega) ?_; exact r_iret hk (dk_at D_Mach_takes 27 rfl) ex.rf)
    · refine r_tableIn (t := 100) hk (dk_at D_Mach_takes 2 rfl) (by omega) (by omega) (by omega) (by rw [en]; exact e1) (by decide) ?_
      have e : tks (n + 2) op d = 0 := by unfold tks; rw [if_neg (by omega), if_neg (by omega), if_neg (by omega), if_neg (by omega)]
      rw [e]
      refine r_iconst hk (dk_at D_Mach_takes 28 rfl) ?_
      exact r_iret hk (dk_at D_Mach_takes 29 rfl) ex.rf
  · have e : tks k op d = 0 := by unfold tks; rw [if_neg (by omega), if_neg (by omega), if_neg (by omega), if_neg (by omega)]
    rw [e]
    refine r_tableOut (t := 100) hk (dk_at D_Mach_takes 2 rfl) (by omega) (by omega) (by decide) ?_
    refine r_iconst hk (dk_at D_Mach_takes 28 rfl) ?_
    exact r_iret hk (dk_at D_Mach_takes 29 rfl) ex.rf
def isA (z : Int) : Bool := decide (0 ≤ z) && decide (z < 200)
def isP (z : Int) : Bool := (decide (-1 ≤ z) && decide (z < 200)) || (decide (1000 ≤ z) && decide (z < 1020))
theorem isA_t {z : Int} : isA z = true ↔ 0 ≤ z ∧ z < 200 := by simp [isA]
theorem isA_f {z : Int} : isA z = false ↔ ¬ (0 ≤ z ∧ z < 200) := by rw [← isA_t]; cases isA z <;> decide
theorem isP_t {z : Int} : isP z = true ↔ (-1 ≤ z ∧ z < 200) ∨ (1000 ≤ z ∧ z < 1020) := by simp [isP]
theorem isP_f {z : Int} : isP z = false ↔ ¬ ((-1 ≤ z ∧ z < 200) ∨ (1000 ≤ z ∧ z < 1020)) := by rw [← isP_t]; cases isP z <;> decide
theorem c_Mach_isAddress (G : Gt) {ad : Ix → Nat} {w : Wt} {z : Int} (hz : -2147483648 ≤ z ∧ z < 2147483648) : Mt G y_Mach_isAddress w_Mach_isAddress 0 0 0 [.int (i32 z)] ad w (ex (some (.int (i32 (b2i (isA z))))) ad w) noT := by
  refine Mt.to [some (.int (i32 z))] (fun K hk hR hin => ?_)
  refine r_iload_n (i := 0) hk (dk_at D_Mach_isAddress 0 rfl) rfl rfl ?_
  refine r_if_lt (t := 15) hk (dk_at D_Mach_isAddress 1 rfl) (by decide) (by omega) (fun c_1 => ?_) (fun c_1 => ?_)
  · have e : isA z = false := isA_f.mpr (by omega)
    rw [e]
    refine r_iconst hk (dk_at D_Mach_isAddress 7 rfl) ?_
    first | exact r_bret (b := true) hk (dk_at D_Mach_isAddress 8 rfl) ex.rf | exact r_bret (b := false) hk (dk_at D_Mach_isAddress 8 rfl) ex.rf
  · refine r_iload_n (i := 0) hk (dk_at D_Mach_isAddress 2 rfl) rfl rfl ?_
    refine r_sipush hk (dk_at D_Mach_isAddress 3 rfl) (by decide) ?_
    refine r_icmp_ge (t := 15) hk (dk_at D_Mach_isAddress 4 rfl) (by decide) (by omega) (by omega) (fun c_8 => ?_) (fun c_8 => ?_)
    · have e : isA z = false := isA_f.mpr (by omega)
      rw [e]
      refine r_iconst hk (dk_at D_Mach_isAddress 7 rfl) ?_
      first | exact r_bret (b := true) hk (dk_at D_Mach_isAddress 8 rfl) ex.rf | exact r_bret (b := false) hk (dk_at D_Mach_isAddress 8 rfl) ex.rf
    · have e : isA z = true := isA_t.mpr (by omega)
      rw [e]
      refine r_iconst hk (dk_at D_Mach_isAddress 5 rfl) ?_
      refine r_goto (t := 16) hk (dk_at D_Mach_isAddress 6 rfl) (by decide) ?_
      first | exact r_bret (b := true) hk (dk_at D_Mach_isAddress 8 rfl) ex.rf | exact r_bret (b := false) hk (dk_at D_Mach_isAddress 8 rfl) ex.rf
theorem c_Mach_isPart (G : Gt) {ad : Ix → Nat} {w : Wt} {z : Int} (hz : -2147483648 ≤ z ∧ z < 2147483648) : Mt G y_Mach_isPart w_Mach_isPart 0 0 0 [.int (i32 z)] ad w (ex (some (.int (i32 (b2i (isP z))))) ad w) noT := by
  refine Mt.to [some (.int (i32 z))] (fun K hk hR hin => ?_)
  refine r_iload_n (i := 0) hk (dk_at D_Mach_isPart 0 rfl) rfl rfl ?_
  refine r_iconst hk (dk_at D_Mach_isPart 1 rfl) ?_
  refine r_icmp_lt (t := 12) hk (dk_at D_Mach_isPart 2 rfl) (by decide) (by omega) (by omega) (fun c_2 => ?_) (fun c_2 => ?_)
  · refine r_iload_n (i := 0) hk (dk_at D_Mach_isPart 6 rfl) rfl rfl ?_
    refine r_sipush hk (dk_at D_Mach_isPart 7 rfl) (by decide) ?_
    refine r_icmp_lt (t := 30) hk (dk_at D_Mach_isPart 8 rfl) (by decide) (by omega) (by omega) (fun c_16 => ?_) (fun c_16 => ?_)
    · have e : isP z = false := isP_f.mpr (by omega)
      rw [e]
      refine r_iconst hk (dk_at D_Mach_isPart 14 rfl) ?_
      first | exact r_bret (b := true) hk (dk_at D_Mach_isPart 15 rfl) ex.rf | exact r_bret (b := false) hk (dk_at D_Mach_isPart 15 rfl) ex.rf
    · refine r_iload_n (i := 0) hk (dk_at D_Mach_isPart 9 rfl) rfl rfl ?_
      refine r_sipush hk (dk_at D_Mach_isPart 10 rfl) (by decide) ?_
      refine r_icmp_ge (t := 30) hk (dk_at D_Mach_isPart 11 rfl) (by decide) (by omega) (by omega) (fun c_23 => ?_) (fun c_23 => ?_)
      · have e : isP z = false := isP_f.mpr (by omega)
        rw [e]
        refine r_iconst hk (dk_at D_Mach_isPart 14 rfl) ?_
        first | exact r_bret (b := true) hk (dk_at D_Mach_isPart 15 rfl) ex.rf | exact r_bret (b := false) hk (dk_at D_Mach_isPart 15 rfl) ex.rf
      · have e : isP z = true := isP_t.mpr (by omega)
        rw [e]
        refine r_iconst hk (dk_at D_Mach_isPart 12 rfl) ?_
        refine r_goto (t := 31) hk (dk_at D_Mach_isPart 13 rfl) (by decide) ?_
        first | exact r_bret (b := true) hk (dk_at D_Mach_isPart 15 rfl) ex.rf | exact r_bret (b := false) hk (dk_at D_Mach_isPart 15 rfl) ex.rf
  · refine r_iload_n (i := 0) hk (dk_at D_Mach_isPart 3 rfl) rfl rfl ?_
    refine r_sipush hk (dk_at D_Mach_isPart 4 rfl) (by decide) ?_
    refine r_icmp_lt (t := 26) hk (dk_at D_Mach_isPart 5 rfl) (by decide) (by omega) (by omega) (fun c_9 => ?_) (fun c_9 => ?_)
    · have e : isP z = true := isP_t.mpr (by omega)
      rw [e]
      refine r_iconst hk (dk_at D_Mach_isPart 12 rfl) ?_
      refine r_goto (t := 31) hk (dk_at D_Mach_isPart 13 rfl) (by decide) ?_
      first | exact r_bret (b := true) hk (dk_at D_Mach_isPart 15 rfl) ex.rf | exact r_bret (b := false) hk (dk_at D_Mach_isPart 15 rfl) ex.rf
    · refine r_iload_n (i := 0) hk (dk_at D_Mach_isPart 6 rfl) rfl rfl ?_
      refine r_sipush hk (dk_at D_Mach_isPart 7 rfl) (by decide) ?_
      refine r_icmp_lt (t := 30) hk (dk_at D_Mach_isPart 8 rfl) (by decide) (by omega) (by omega) (fun c_16 => ?_) (fun c_16 => ?_)
      · have e : isP z = false := isP_f.mpr (by omega)
        rw [e]
        refine r_iconst hk (dk_at D_Mach_isPart 14 rfl) ?_
        first | exact r_bret (b := true) hk (dk_at D_Mach_isPart 15 rfl) ex.rf | exact r_bret (b := false) hk (dk_at D_Mach_isPart 15 rfl) ex.rf
      · refine r_iload_n (i := 0) hk (dk_at D_Mach_isPart 9 rfl) rfl rfl ?_
        refine r_sipush hk (dk_at D_Mach_isPart 10 rfl) (by decide) ?_
        refine r_icmp_ge (t := 30) hk (dk_at D_Mach_isPart 11 rfl) (by decide) (by omega) (by omega) (fun c_23 => ?_) (fun c_23 => ?_)
        · have e : isP z = false := isP_f.mpr (by omega)
          rw [e]
          refine r_iconst hk (dk_at D_Mach_isPart 14 rfl) ?_
          first | exact r_bret (b := true) hk (dk_at D_Mach_isPart 15 rfl) ex.rf | exact r_bret (b := false) hk (dk_at D_Mach_isPart 15 rfl) ex.rf
        · have e : isP z = true := isP_t.mpr (by omega)
          rw [e]
          refine r_iconst hk (dk_at D_Mach_isPart 12 rfl) ?_
          refine r_goto (t := 31) hk (dk_at D_Mach_isPart 13 rfl) (by decide) ?_
          first | exact r_bret (b := true) hk (dk_at D_Mach_isPart 15 rfl) ex.rf | exact r_bret (b := false) hk (dk_at D_Mach_isPart 15 rfl) ex.rf
theorem c_Mod_isAddress (G : Gt) {ad : Ix → Nat} {w : Wt} {z : Int} (hz : -2147483648 ≤ z ∧ z < 2147483648) : Mt G y_Mod_isAddress w_Mod_isAddress 0 0 0 [.int (i32 z)] ad w (ex (some (.int (i32 (b2i (isA z))))) ad w) noT := by
  refine Mt.to [some (.int (i32 z))] (fun K hk hR hin => ?_)
  refine r_iload_n (i := 0) hk (dk_at D_Mod_isAddress 0 rfl) rfl rfl ?_
  refine r_if_lt (t := 15) hk (dk_at D_Mod_isAddress 1 rfl) (by decide) (by omega) (fun c_1 => ?_) (fun c_1 => ?_)
  · have e : isA z = false := isA_f.mpr (by omega)
    rw [e]
    refine r_iconst hk (dk_at D_Mod_isAddress 7 rfl) ?_
    first | exact r_bret (b := true) hk (dk_at D_Mod_isAddress 8 rfl) ex.rf | exact r_bret (b := false) hk (dk_at D_Mod_isAddress 8 rfl) ex.rf
  · refine r_iload_n (i := 0) hk (dk_at D_Mod_isAddress 2 rfl) rfl rfl ?_
    refine r_sipush hk (dk_at D_Mod_isAddress 3 rfl) (by decide) ?_
    refine r_icmp_ge (t := 15) hk (dk_at D_Mod_isAddress 4 rfl) (by decide) (by omega) (by omega) (fun c_8 => ?_) (fun c_8 => ?_)
    · have e : isA z = false := isA_f.mpr (by omega)
      rw [e]
      refine r_iconst hk (dk_at D_Mod_isAddress 7 rfl) ?_
      first | exact r_bret (b := true) hk (dk_at D_Mod_isAddress 8 rfl) ex.rf | exact r_bret (b := false) hk (dk_at D_Mod_isAddress 8 rfl) ex.rf
    · have e : isA z = true := isA_t.mpr (by omega)
      rw [e]
      refine r_iconst hk (dk_at D_Mod_isAddress 5 rfl) ?_
      refine r_goto (t := 16) hk (dk_at D_Mod_isAddress 6 rfl) (by decide) ?_
      first | exact r_bret (b := true) hk (dk_at D_Mod_isAddress 8 rfl) ex.rf | exact r_bret (b := false) hk (dk_at D_Mod_isAddress 8 rfl) ex.rf
theorem c_Mod_isPart (G : Gt) {ad : Ix → Nat} {w : Wt} {z : Int} (hz : -2147483648 ≤ z ∧ z < 2147483648) : Mt G y_Mod_isPart w_Mod_isPart 0 0 0 [.int (i32 z)] ad w (ex (some (.int (i32 (b2i (isP z))))) ad w) noT := by
  refine Mt.to [some (.int (i32 z))] (fun K hk hR hin => ?_)
  refine r_iload_n (i := 0) hk (dk_at D_Mod_isPart 0 rfl) rfl rfl ?_
  refine r_iconst hk (dk_at D_Mod_isPart 1 rfl) ?_
  refine r_icmp_lt (t := 12) hk (dk_at D_Mod_isPart 2 rfl) (by decide) (by omega) (by omega) (fun c_2 => ?_) (fun c_2 => ?_)
  · refine r_iload_n (i := 0) hk (dk_at D_Mod_isPart 6 rfl) rfl rfl ?_
    refine r_sipush hk (dk_at D_Mod_isPart 7 rfl) (by decide) ?_
    refine r_icmp_lt (t := 30) hk (dk_at D_Mod_isPart 8 rfl) (by decide) (by omega) (by omega) (fun c_16 => ?_) (fun c_16 => ?_)
    · have e : isP z = false := isP_f.mpr (by omega)
      rw [e]
      refine r_iconst hk (dk_at D_Mod_isPart 14 rfl) ?_
      first | exact r_bret (b := true) hk (dk_at D_Mod_isPart 15 rfl) ex.rf | exact r_bret (b := false) hk (dk_at D_Mod_isPart 15 rfl) ex.rf
    · refine r_iload_n (i := 0) hk (dk_at D_Mod_isPart 9 rfl) rfl rfl ?_
      refine r_sipush hk (dk_at D_Mod_isPart 10 rfl) (by decide) ?_
      refine r_icmp_ge (t := 30) hk (dk_at D_Mod_isPart 11 rfl) (by decide) (by omega) (by omega) (fun c_23 => ?_) (fun c_23 => ?_)
      · have e : isP z = false := isP_f.mpr (by omega)
        rw [e]
        refine r_iconst hk (dk_at D_Mod_isPart 14 rfl) ?_
        first | exact r_bret (b := true) hk (dk_at D_Mod_isPart 15 rfl) ex.rf | exact r_bret (b := false) hk (dk_at D_Mod_isPart 15 rfl) ex.rf
      · have e : isP z = true := isP_t.mpr (by omega)
        rw [e]
        refine r_iconst hk (dk_at D_Mod_isPart 12 rfl) ?_
        refine r_goto (t := 31) hk (dk_at D_Mod_isPart 13 rfl) (by decide) ?_
        first | exact r_bret (b := true) hk (dk_at D_Mod_isPart 15 rfl) ex.rf | exact r_bret (b := false) hk (dk_at D_Mod_isPart 15 rfl) ex.rf
  · refine r_iload_n (i := 0) hk (dk_at D_Mod_isPart 3 rfl) rfl rfl ?_
    refine r_sipush hk (dk_at D_Mod_isPart 4 rfl) (by decide) ?_
    refine r_icmp_lt (t := 26) hk (dk_at D_Mod_isPart 5 rfl) (by decide) (by omega) (by omega) (fun c_9 => ?_) (fun c_9 => ?_)
    · have e : isP z = true := isP_t.mpr (by omega)
      rw [e]
      refine r_iconst hk (dk_at D_Mod_isPart 12 rfl) ?_
      refine r_goto (t := 31) hk (dk_at D_Mod_isPart 13 rfl) (by decide) ?_
      first | exact r_bret (b := true) hk (dk_at D_Mod_isPart 15 rfl) ex.rf | exact r_bret (b := false) hk (dk_at D_Mod_isPart 15 rfl) ex.rf
    · refine r_iload_n (i := 0) hk (dk_at D_Mod_isPart 6 rfl) rfl rfl ?_
      refine r_sipush hk (dk_at D_Mod_isPart 7 rfl) (by decide) ?_
      refine r_icmp_lt (t := 30) hk (dk_at D_Mod_isPart 8 rfl) (by decide) (by omega) (by omega) (fun c_16 => ?_) (fun c_16 => ?_)
      · have e : isP z = false := isP_f.mpr (by omega)
        rw [e]
        refine r_iconst hk (dk_at D_Mod_isPart 14 rfl) ?_
        first | exact r_bret (b := true) hk (dk_at D_Mod_isPart 15 rfl) ex.rf | exact r_bret (b := false) hk (dk_at D_Mod_isPart 15 rfl) ex.rf
      · refine r_iload_n (i := 0) hk (dk_at D_Mod_isPart 9 rfl) rfl rfl ?_
        refine r_sipush hk (dk_at D_Mod_isPart 10 rfl) (by decide) ?_
        refine r_icmp_ge (t := 30) hk (dk_at D_Mod_isPart 11 rfl) (by decide) (by omega) (by omega) (fun c_23 => ?_) (fun c_23 => ?_)
        · have e : isP z = false := isP_f.mpr (by omega)
          rw [e]
          refine r_iconst hk (dk_at D_Mod_isPart 14 rfl) ?_
          first | exact r_bret (b := true) hk (dk_at D_Mod_isPart 15 rfl) ex.rf | exact r_bret (b := false) hk (dk_at D_Mod_isPart 15 rfl) ex.rf
        · have e : isP z = true := isP_t.mpr (by omega)
          rw [e]
          refine r_iconst hk (dk_at D_Mod_isPart 12 rfl) ?_
          refine r_goto (t := 31) hk (dk_at D_Mod_isPart 13 rfl) (by decide) ?_
          first | exact r_bret (b := true) hk (dk_at D_Mod_isPart 15 rfl) ex.rf | exact r_bret (b := false) hk (dk_at D_Mod_isPart 15 rfl) ex.rf
theorem c_Mach_mustBe (G : Gt) {ad : Ix → Nat} {w : Wt} {b : Bool} : Mt G y_Mach_mustBe w_Mach_mustBe 6 1 6 [.int (i32 (b2i b))] ad w (fun v ad' w' => v = none ∧ ad' = ad ∧ w' = w ∧ b = true) (fun C ad' w' => C = "java/lang/IndexOutOfBoundsException" ∧ ad' = ad ∧ w' = w ∧ b = false) := by
  refine Mt.to [some (.int (i32 (b2i b)))] (fun K hk hR hin => ?_)
  refine r_iload_n (i := 0) hk (dk_at D_Mach_mustBe 0 rfl) rfl rfl ?_
  refine r_if_neB (t := 12) hk (dk_at D_Mach_mustBe 1 rfl) (by decide) (fun c_1 => ?_) (fun c_1 => ?_)
  · exact r_vret hk (dk_at D_Mach_mustBe 6 rfl) ⟨rfl, rfl, rfl, c_1⟩
  · obtain ⟨r1, r2, r3, r4⟩ := hR
    exact r_throw hk ex_iob (dk_at D_Mach_mustBe 2 rfl) (dk_at D_Mach_mustBe 3 rfl) (dk_at D_Mach_mustBe 4 rfl) (dk_at D_Mach_mustBe 5 rfl) ⟨rfl, rfl, rfl, c_1⟩ (hr := ⟨by omega, by omega⟩) (hce := by omega) (hsl := by omega)
theorem c_Mach_need (G : Gt) {ad : Ix → Nat} {w : Wt} {b : Bool} : Mt G y_Mach_need w_Mach_need 6 1 6 [.int (i32 (b2i b))] ad w (fun v ad' w' => v = none ∧ ad' = ad ∧ w' = w ∧ b = true) (fun C ad' w' => C = "java/lang/IllegalArgumentException" ∧ ad' = ad ∧ w' = w ∧ b = false) := by
  refine Mt.to [some (.int (i32 (b2i b)))] (fun K hk hR hin => ?_)
  refine r_iload_n (i := 0) hk (dk_at D_Mach_need 0 rfl) rfl rfl ?_
  refine r_if_neB (t := 12) hk (dk_at D_Mach_need 1 rfl) (by decide) (fun c_1 => ?_) (fun c_1 => ?_)
  · exact r_vret hk (dk_at D_Mach_need 6 rfl) ⟨rfl, rfl, rfl, c_1⟩
  · obtain ⟨r1, r2, r3, r4⟩ := hR
    exact r_throw hk ex_iae (dk_at D_Mach_need 2 rfl) (dk_at D_Mach_need 3 rfl) (dk_at D_Mach_need 4 rfl) (dk_at D_Mach_need 5 rfl) ⟨rfl, rfl, rfl, c_1⟩ (hr := ⟨by omega, by omega⟩) (hce := by omega) (hsl := by omega)
