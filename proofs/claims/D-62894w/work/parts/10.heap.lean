/-! rows that look at the heap -/
theorem cls_ok (ci : Nat) (r : vw_C) (h : cls[ci]? = some r) : ∃ ty : Nat → FieldType, (∀ w ∈ u_ws r.1 r.2.1 r.2.2, w ∈ tw) ∧ (∀ k, k < r.2.2 → parseFieldDescriptor (r.2.1 k).2.2.1 = some (ty k)) ∧ ∀ a, a < r.2.2 → ∀ b, b < r.2.2 → a ≠ b → (r.2.1 a).2.1 ≠ (r.2.1 b).2.1 := by
  match ci, h with
  | 0, h => cases h; exact ⟨y_Mach, i_Mach, y_Mach_ok, n_Mach⟩
  | 1, h => cases h; exact ⟨y_Drum, i_Drum, y_Drum_ok, n_Drum⟩
  | 2, h => cases h; exact ⟨y_Acc, i_Acc, y_Acc_ok, n_Acc⟩
  | 3, h => cases h; exact ⟨y_Word, i_Word, y_Word_ok, n_Word⟩
  | 4, h => cases h; exact ⟨y_Asm, i_Asm, y_Asm_ok, n_Asm⟩
  | 5, h => cases h; exact ⟨y_Line, i_Line, y_Line_ok, n_Line⟩
  | 6, h => cases h; exact ⟨y_Mod, i_Mod, y_Mod_ok, n_Mod⟩
  | n + 7, h => cases h
theorem gP {G : Gt} {ad : Ix → Nat} {w : Wt} {H : Heap} {i : Ix} {ci : Nat} {fs : List Value} (h : hv G ad w H) (hi : w i = some (.inl (ci, fs))) : va_P G.2.1 cls [(ad i, .inr (ci, fs))] H := by
  intro k q hk
  match k, hk with
  | 0, hk => cases hk; exact (h.1 i _ hi).1
  | k + 1, hk => cases hk
section HEAP
variable {G : Gt} {K : Kt} {own : String} {cc : ByteArray} {nL : Nat} {ret : Option FieldType} {tb : List ExceptionTableEntry} {Q : State → Prop} {cs ss pc q : Nat} {ls : List (Option Value)} {st : List Value} {ad : Ix → Nat} {w : Wt}
theorem Ok.ts (hk : Ok G K own cc nL ret tb) : ∀ x ∈ tw, x.before K.2.2.2.2.2.1 K.2.2.2.1 = true := fun x hx => hk.2.2.2.2.1.1 x hx _
theorem Ok.kk (hk : Ok G K own cc nL ret tb) : va_K G.2.1 cls (tys G) K.2.2.2.1 := hk.2.2.2.2.1.2.1
theorem r_get {idx ci k a : Nat} {i : Ix} {fs : List Value} {v : Value} (hk : Ok G K own cc nL ret tb) (fl : Fl own idx ci k) (hd : decode cc pc = .ok (.getfield idx, 3) ∧ pc + 3 = q)  (kk : V G K nL Q cs ss q ls (v :: st) ad w) (ha : ad i = a := by rfl) (hw : w i = some (.inl (ci, fs)) := by first | rfl | assumption) (hf : fs[k]? = some v := by rfl) : V G K nL Q cs ss pc ls (.ref a :: st) ad w := by
  obtain ⟨hd, rfl⟩ := hd
  subst ha
  intro H locs la h1 h2 h3
  obtain ⟨⟨C, T, N⟩, hc, hkN, hm⟩ := fl
  obtain ⟨ty, o1, o2, o3⟩ := cls_ok ci _ hc
  exact va_get (D := G.2.1) (cl := cls) hk.1 hk.2.1 hk.ts o1 hk.2.2.2.1 hk.kk (gP h1 hw) 0 rfl hc k hkN (hk.ts _ hm) (fun _ h9 => h9) hf hd (kk H locs la h1 h2 h3)
theorem r_getN {idx ci k a : Nat} {i : Ix} {fs : List Value} {v : Value} (hk : Ok G K own cc nL ret tb) (fl : FlN own idx ci k) (hd : decode cc pc = .ok (.getfield idx, 3) ∧ pc + 3 = q)  (kk : V G K nL Q cs ss q ls (v :: st) ad w) (ha : ad i = a := by rfl) (hw : w i = some (.inl (ci, fs)) := by first | rfl | assumption) (hf : fs[k]? = some v := by rfl) : V G K nL Q cs ss pc ls (.ref a :: st) ad w := by
  obtain ⟨hd, rfl⟩ := hd
  subst ha
  intro H locs la h1 h2 h3
  obtain ⟨⟨C, T, N⟩, host, hc, hkN, hm⟩ := fl
  obtain ⟨ty, o1, o2, o3⟩ := cls_ok ci _ hc
  exact va_getN (D := G.2.1) (cl := cls) hk.1 hk.2.1 hk.ts o1 hk.2.2.2.1 hk.kk (gP h1 hw) 0 rfl hc k hkN (hk.ts _ hm) (fun _ h9 => h9) hf hd (kk H locs la h1 h2 h3)
theorem r_put {idx ci k a : Nat} {i : Ix} {fs fs' : List Value} {v : Value} {ty : FieldType} (hk : Ok G K own cc nL ret tb) (fl : Fl own idx ci k) (ft : Ft ci k ty false) (hd : decode cc pc = .ok (.putfield idx, 3) ∧ pc + 3 = q)  (kk : V G K nL Q cs ss q ls st ad (up w i (some (.inl (ci, fs'))))) (ha : ad i = a := by rfl) (hw : w i = some (.inl (ci, fs)) := by first | rfl | assumption) (hn : narrow ty v = v := by rfl) (hfit : fits ty v = true := by rfl) (hl : Nat.blt k fs.length = true := by rfl) (hs : fs.set k v = fs' := by rfl) : V G K nL Q cs ss pc ls (v :: .ref a :: st) ad w := by
  obtain ⟨hd, rfl⟩ := hd
  subst ha
  subst hs
  intro H locs la h1 h2 h3
  obtain ⟨⟨C, T, N⟩, hc, hkN, hm⟩ := fl
  obtain ⟨r', hc', -, f1, f2, f3⟩ := ft
  cases hc.symm.trans hc'
  obtain ⟨ty0, o1, o2, o3⟩ := cls_ok ci _ hc
  have hap := va_apart (own := own) hk.ts o1 ty0 o2 o3 hk.kk hc
  obtain ⟨⟨r, g1, cell, q1, q2, q3, q4⟩, hB⟩ := h1.1 i _ hw
  cases hc.symm.trans g1
  obtain ⟨hS, hfc, kC, hkC, hkind⟩ := hk.kk.1 ci _ hc
  obtain ⟨cf, kf, fi, f, hi, hsl⟩ := hS k hkN
  have hlay := hk.ts _ (o1 _ (u_in_lay hkN))
  unfold u_lay at hlay
  rw [if_neg (by rw [f2]; decide)] at hlay
  have hst := (u_facts hfc hkC (u_lays hk.ts o1 hkN) hi).1
  have h6 := u_store hfc hkC hkind hlay hi f1 hn hfit
  refine W.putK hk.1 hk.2.1 (f := f) ⟨hk.2.2.2.1, hk.ts _ hm, ⟨_, _, _, hi⟩, hst⟩ (by rw [q2]; exact h6) q1 q3 (by rw [hsl]; exact k2_hasslot (q4 k hkN)) rfl rfl hd fun H' e1 e2 e3 => ?_
  rw [hsl] at e1 ⊢
  exact kk H' _ la (h1.set hw ⟨_, hc, t_OB.to (V := updV (vp_V fs) k v) ⟨_, e1, q2, q3, t_set q4 hap hkN v⟩ (fun j _ => vp_updV_set (Nat.blt_eq.mp hl) v j)⟩ e3) (h2.put e2 e3 hB) h3
theorem r_putN {idx ci k a : Nat} {i : Ix} {fs fs' : List Value} {v : Value} {ty : FieldType} (hk : Ok G K own cc nL ret tb) (fl : FlN own idx ci k) (ft : Ft ci k ty false) (hd : decode cc pc = .ok (.putfield idx, 3) ∧ pc + 3 = q)  (kk : V G K nL Q cs ss q ls st ad (up w i (some (.inl (ci, fs'))))) (ha : ad i = a := by rfl) (hw : w i = some (.inl (ci, fs)) := by first | rfl | assumption) (hn : narrow ty v = v := by rfl) (hfit : fits ty v = true := by rfl) (hl : Nat.blt k fs.length = true := by rfl) (hs : fs.set k v = fs' := by rfl) : V G K nL Q cs ss pc ls (v :: .ref a :: st) ad w := by
  obtain ⟨hd, rfl⟩ := hd
  subst ha
  subst hs
  intro H locs la h1 h2 h3
  obtain ⟨⟨C, T, N⟩, host, hc, hkN, hm⟩ := fl
  obtain ⟨r', hc', -, f1, f2, f3⟩ := ft
  cases hc.symm.trans hc'
  obtain ⟨ty0, o1, o2, o3⟩ := cls_ok ci _ hc
  have hap := va_apart (own := own) hk.ts o1 ty0 o2 o3 hk.kk hc
  obtain ⟨⟨r, g1, cell, q1, q2, q3, q4⟩, hB⟩ := h1.1 i _ hw
  cases hc.symm.trans g1
  obtain ⟨hS, hfc, kC, hkC, hkind⟩ := hk.kk.1 ci _ hc
  obtain ⟨cf, kf, fi, f, hi, hsl⟩ := hS k hkN
  have hlay := hk.ts _ (o1 _ (u_in_lay hkN))
  unfold u_lay at hlay
  rw [if_neg (by rw [f2]; decide)] at hlay
  have hst := (u_facts hfc hkC (u_lays hk.ts o1 hkN) hi).1
  have h6 := u_store hfc hkC hkind hlay hi f1 hn hfit
  refine va_WputK hk.1 hk.2.1 (f := f) hk.2.2.2.1 (hk.ts _ hm) hi hst (by rw [q2]; exact h6) q1 q3 (by rw [hsl]; exact k2_hasslot (q4 k hkN)) rfl rfl hd fun H' e1 e2 e3 => ?_
  rw [hsl] at e1 ⊢
  exact kk H' _ la (h1.set hw ⟨_, hc, t_OB.to (V := updV (vp_V fs) k v) ⟨_, e1, q2, q3, t_set q4 hap hkN v⟩ (fun j _ => vp_updV_set (Nat.blt_eq.mp hl) v j)⟩ e3) (h2.put e2 e3 hB) h3
theorem r_putF {idx ci k a : Nat} {i : Ix} {fs fs' : List Value} {v : Value} {ty : FieldType} (hk : Ok G K own cc nL ret tb) (hin : K.2.2.2.2.2.2.2.1.name = "<init>") (fl : Fl own idx ci k) (ft : Ft ci k ty true) (ho : cls[ci]?.map (fun r => r.1) = some own) (hd : decode cc pc = .ok (.putfield idx, 3) ∧ pc + 3 = q)  (kk : V G K nL Q cs ss q ls st ad (up w i (some (.inl (ci, fs'))))) (ha : ad i = a := by rfl) (hw : w i = some (.inl (ci, fs)) := by first | rfl | assumption) (hn : narrow ty v = v := by rfl) (hfit : fits ty v = true := by rfl) (hl : Nat.blt k fs.length = true := by rfl) (hs : fs.set k v = fs' := by rfl) : V G K nL Q cs ss pc ls (v :: .ref a :: st) ad w := by
  obtain ⟨hd, rfl⟩ := hd
  subst ha
  subst hs
  intro H locs la h1 h2 h3
  obtain ⟨⟨C, T, N⟩, hc, hkN, hm⟩ := fl
  obtain ⟨r', hc', -, f1, f2, f3⟩ := ft
  cases hc.symm.trans hc'
  rw [hc] at ho
  have hoC : C = own := Option.some.inj ho
  obtain ⟨ty0, o1, o2, o3⟩ := cls_ok ci _ hc
  have hap := va_apart (own := own) hk.ts o1 ty0 o2 o3 hk.kk hc
  obtain ⟨⟨r, g1, cell, q1, q2, q3, q4⟩, hB⟩ := h1.1 i _ hw
  cases hc.symm.trans g1
  obtain ⟨hS, hfc, kC, hkC, hkind⟩ := hk.kk.1 ci _ hc
  obtain ⟨cf, kf, fi, f, hi, hsl⟩ := hS k hkN
  have hlay := hk.ts _ (o1 _ (u_in_lay hkN))
  unfold u_lay at hlay
  rw [if_pos f2] at hlay
  have hst := (u_facts hfc hkC (u_lays hk.ts o1 hkN) hi).1
  have hcf : K.2.2.2.2.1.cls = cf := by
    obtain ⟨_, _, c', _, _, _, -, -, hf', -, -, -, hown2, -⟩ := Cond.laysFinal_spec hlay
    have e1 : c' = cf := by have := hi.symm.trans hf'; simp at this; exact this.1.symm
    rw [f3] at hown2
    rw [← e1]; exact Option.some.inj (hk.2.2.2.1.symm.trans (by rw [← hoC]; exact hown2))
  have h6 := u_fits hfc hkC hkind (Or.inr hlay) hi f1 hn hfit
  refine W.putFinK hk.1 hk.2.1 hk.2.2.2.1 (hk.ts _ hm) hi hst hcf hin (by rw [q2]; exact h6) q1 q3 (by rw [hsl]; exact k2_hasslot (q4 k hkN)) rfl rfl hd fun H' e1 e2 e3 => ?_
  rw [hsl] at e1 ⊢
  exact kk H' _ la (h1.set hw ⟨_, hc, t_OB.to (V := updV (vp_V fs) k v) ⟨_, e1, q2, q3, t_set q4 hap hkN v⟩ (fun j _ => vp_updV_set (Nat.blt_eq.mp hl) v j)⟩ e3) (h2.put e2 e3 hB) h3
theorem i32_clamp {j : Int} {n : Nat} (hj : 0 ≤ j ∧ j < (n : Int)) (hn : n < 2147483648) : (i32 j).toNatClampNeg = j.toNat ∧ ¬ i32 j < 0 ∧ j.toNat < n := by
  have ht := i32_t (a := j) (by omega)
  refine ⟨?_, ?_, by omega⟩
  · show (i32 j).toInt.toNat = j.toNat
    rw [ht]
  · rw [iz_lt (by omega)]; omega
theorem Ok.ar (hk : Ok G K own cc nL ret tb) (t : Nat) (ht : Nat.blt t 7 = true) : ArrOfT K.2.2.2.1 (G.2.2.1 t) (aty t) ∧ va_RA K.2.2.2.1 (G.2.2.1 t) (aty t) := by
  have h := hk.kk.2
  match t, ht with
  | 0, _ => exact h 0 _ rfl
  | 1, _ => exact h 1 _ rfl
  | 2, _ => exact h 2 _ rfl
  | 3, _ => exact h 3 _ rfl
  | 4, _ => exact h 4 _ rfl
  | 5, _ => exact h 5 _ rfl
  | 6, _ => exact h 6 _ rfl
  | n + 7, h9 => exact absurd (Nat.blt_eq.mp h9) (by omega)
theorem gAr {i : Ix} {t n : Nat} {f : Nat → Value} {H : Heap} (h : hv G ad w H) (hi : w i = some (.inr (t, n, f))) : H[ad i]? = some (arrV (G.2.2.1 t) n f) := (h.1 i _ hi).1
theorem r_iaload {ix : Nat} {a n : Nat} {i : Ix} {f : Nat → Value} {j : Int} (hk : Ok G K own cc nL ret tb) (hd : decode cc pc = .ok (.iaload, 1) ∧ pc + 1 = q)  (kk : V G K nL Q cs ss q ls (f ix :: st) ad w) (ha : ad i = a := by rfl) (hw : w i = some (.inr (0, n, f)) := by first | rfl | assumption) (hn : Nat.blt n 2147483648 = true := by rfl) (hj : j = (ix : Int) := by omega) (hjn : ix < n := by omega) : V G K nL Q cs ss pc ls (.int (i32 j) :: .ref a :: st) ad w := by
  obtain ⟨hd, rfl⟩ := hd
  subst ha
  subst hj
  intro H locs la h1 h2 h3
  obtain ⟨c1, c2, c3⟩ := i32_clamp (j := (ix : Int)) ⟨by omega, by omega⟩ (Nat.blt_eq.mp hn)
  exact W.iald (v := f ix) hk.1 hk.2.1 (gAr h1 hw) ((hk.ar 0 rfl).1 n f) (fun q => by cases q) (by rw [arrV_size, c1]; exact fun z => z.elim c2 (by rw [Int.toNat_natCast]; omega)) (by rw [c1, Int.toNat_natCast, arrV_read _ _ hjn]) rfl rfl hd (kk H locs la h1 h2 h3)
theorem r_laload {ix : Nat} {a n : Nat} {i : Ix} {f : Nat → Value} {j : Int} (hk : Ok G K own cc nL ret tb) (hd : decode cc pc = .ok (.laload, 1) ∧ pc + 1 = q)  (kk : V G K nL Q cs ss q ls (f ix :: st) ad w) (ha : ad i = a := by rfl) (hw : w i = some (.inr (1, n, f)) := by first | rfl | assumption) (hn : Nat.blt n 2147483648 = true := by rfl) (hj : j = (ix : Int) := by omega) (hjn : ix < n := by omega) : V G K nL Q cs ss pc ls (.int (i32 j) :: .ref a :: st) ad w := by
  obtain ⟨hd, rfl⟩ := hd
  subst ha
  subst hj
  intro H locs la h1 h2 h3
  obtain ⟨c1, c2, c3⟩ := i32_clamp (j := (ix : Int)) ⟨by omega, by omega⟩ (Nat.blt_eq.mp hn)
  exact W.lald (v := f ix) hk.1 hk.2.1 (gAr h1 hw) ((hk.ar 1 rfl).1 n f) (fun q => by cases q) (by rw [arrV_size, c1]; exact fun z => z.elim c2 (by rw [Int.toNat_natCast]; omega)) (by rw [c1, Int.toNat_natCast, arrV_read _ _ hjn]) rfl rfl hd (kk H locs la h1 h2 h3)
theorem r_zaload {ix : Nat} {a n : Nat} {i : Ix} {f : Nat → Value} {j : Int} (hk : Ok G K own cc nL ret tb) (hd : decode cc pc = .ok (.baload, 1) ∧ pc + 1 = q)  (kk : V G K nL Q cs ss q ls (f ix :: st) ad w) (ha : ad i = a := by rfl) (hw : w i = some (.inr (2, n, f)) := by first | rfl | assumption) (hn : Nat.blt n 2147483648 = true := by rfl) (hj : j = (ix : Int) := by omega) (hjn : ix < n := by omega) : V G K nL Q cs ss pc ls (.int (i32 j) :: .ref a :: st) ad w := by
  obtain ⟨hd, rfl⟩ := hd
  subst ha
  subst hj
  intro H locs la h1 h2 h3
  obtain ⟨c1, c2, c3⟩ := i32_clamp (j := (ix : Int)) ⟨by omega, by omega⟩ (Nat.blt_eq.mp hn)
  exact W.zald (v := f ix) hk.1 hk.2.1 (gAr h1 hw) ((hk.ar 2 rfl).1 n f) (fun q => by cases q) (by rw [arrV_size, c1]; exact fun z => z.elim c2 (by rw [Int.toNat_natCast]; omega)) (by rw [c1, Int.toNat_natCast, arrV_read _ _ hjn]) rfl rfl hd (kk H locs la h1 h2 h3)
theorem r_baload {ix : Nat} {a n : Nat} {i : Ix} {f : Nat → Value} {j : Int} (hk : Ok G K own cc nL ret tb) (hd : decode cc pc = .ok (.baload, 1) ∧ pc + 1 = q)  (kk : V G K nL Q cs ss q ls (f ix :: st) ad w) (ha : ad i = a := by rfl) (hw : w i = some (.inr (3, n, f)) := by first | rfl | assumption) (hn : Nat.blt n 2147483648 = true := by rfl) (hj : j = (ix : Int) := by omega) (hjn : ix < n := by omega) : V G K nL Q cs ss pc ls (.int (i32 j) :: .ref a :: st) ad w := by
  obtain ⟨hd, rfl⟩ := hd
  subst ha
  subst hj
  intro H locs la h1 h2 h3
  obtain ⟨c1, c2, c3⟩ := i32_clamp (j := (ix : Int)) ⟨by omega, by omega⟩ (Nat.blt_eq.mp hn)
  exact W.bald (v := f ix) hk.1 hk.2.1 (gAr h1 hw) ((hk.ar 3 rfl).1 n f) (fun q => by cases q) (by rw [arrV_size, c1]; exact fun z => z.elim c2 (by rw [Int.toNat_natCast]; omega)) (by rw [c1, Int.toNat_natCast, arrV_read _ _ hjn]) rfl rfl hd (kk H locs la h1 h2 h3)
theorem r_aaload {ix : Nat} {t a n : Nat} {i : Ix} {f : Nat → Value} {j : Int} (hk : Ok G K own cc nL ret tb) (hd : decode cc pc = .ok (.aaload, 1) ∧ pc + 1 = q)  (kk : V G K nL Q cs ss q ls (f ix :: st) ad w) (ha : ad i = a := by rfl) (hw : w i = some (.inr (t, n, f)) := by first | rfl | assumption) (hn : Nat.blt n 2147483648 = true := by rfl) (ht : Nat.blt t 7 = true := by rfl) (hr : (aty t).isReference = true := by rfl) (hj : j = (ix : Int) := by omega) (hjn : ix < n := by omega) : V G K nL Q cs ss pc ls (.int (i32 j) :: .ref a :: st) ad w := by
  obtain ⟨hd, rfl⟩ := hd
  subst ha
  subst hj
  intro H locs la h1 h2 h3
  obtain ⟨c1, c2, c3⟩ := i32_clamp (j := (ix : Int)) ⟨by omega, by omega⟩ (Nat.blt_eq.mp hn)
  exact W.aald (v := f ix) (ty := aty t) hk.1 hk.2.1 (gAr h1 hw) ((hk.ar t ht).1 n f) hr (fun q => by cases q) (by rw [arrV_size, c1]; exact fun z => z.elim c2 (by rw [Int.toNat_natCast]; omega)) (by rw [c1, Int.toNat_natCast, arrV_read _ _ hjn]) rfl rfl hd (kk H locs la h1 h2 h3)
theorem r_alen {t a n : Nat} {i : Ix} {f : Nat → Value} (hk : Ok G K own cc nL ret tb) (hd : decode cc pc = .ok (.arraylength, 1) ∧ pc + 1 = q)  (kk : V G K nL Q cs ss q ls (.int (i32 (n : Int)) :: st) ad w) (ha : ad i = a := by rfl) (hw : w i = some (.inr (t, n, f)) := by first | rfl | assumption) (ht : Nat.blt t 7 = true := by rfl) : V G K nL Q cs ss pc ls (.ref a :: st) ad w := by
  obtain ⟨hd, rfl⟩ := hd
  subst ha
  intro H locs la h1 h2 h3
  exact W.alen (n := i32 (n : Int)) hk.1 hk.2.1 (gAr h1 hw) ((hk.ar t ht).1 n f) (by rw [arrV_size]; rfl) rfl rfl hd (kk H locs la h1 h2 h3)
theorem r_iastore {ix : Nat} {a n : Nat} {i : Ix} {f : Nat → Value} {j : Int} {x : Int32} (hk : Ok G K own cc nL ret tb) (hd : decode cc pc = .ok (.iastore, 1) ∧ pc + 1 = q)  (kk : V G K nL Q cs ss q ls st ad (up w i (some (.inr (0, n, updV f ix (.int x)))))) (ha : ad i = a := by rfl) (hw : w i = some (.inr (0, n, f)) := by first | rfl | assumption) (hn : Nat.blt n 2147483648 = true := by rfl) (hj : j = (ix : Int) := by omega) (hjn : ix < n := by omega) : V G K nL Q cs ss pc ls (.int x :: .int (i32 j) :: .ref a :: st) ad w := by
  obtain ⟨hd, rfl⟩ := hd
  subst ha
  subst hj
  intro H locs la h1 h2 h3
  obtain ⟨c1, c2, c3⟩ := i32_clamp (j := (ix : Int)) ⟨by omega, by omega⟩ (Nat.blt_eq.mp hn)
  refine W.iast hk.1 hk.2.1 (gAr h1 hw) ((hk.ar 0 rfl).1 n f) (fun q => by cases q) (by rw [arrV_size, c1]; exact fun z => z.elim c2 (by rw [Int.toNat_natCast]; omega)) rfl rfl hd fun H1 e z oq => ?_
  rw [c1, Int.toNat_natCast, arrV_store] at e
  rw [c1, Int.toNat_natCast]
  exact kk H1 _ la (h1.set hw e oq) (h2.put z oq (h1.1 i _ hw).2) h3
theorem r_lastore {ix : Nat} {a n : Nat} {i : Ix} {f : Nat → Value} {j : Int} {x : Int64} (hk : Ok G K own cc nL ret tb) (hd : decode cc pc = .ok (.lastore, 1) ∧ pc + 1 = q)  (kk : V G K nL Q cs ss q ls st ad (up w i (some (.inr (1, n, updV f ix (.long x)))))) (ha : ad i = a := by rfl) (hw : w i = some (.inr (1, n, f)) := by first | rfl | assumption) (hn : Nat.blt n 2147483648 = true := by rfl) (hj : j = (ix : Int) := by omega) (hjn : ix < n := by omega) : V G K nL Q cs ss pc ls (.long x :: .int (i32 j) :: .ref a :: st) ad w := by
  obtain ⟨hd, rfl⟩ := hd
  subst ha
  subst hj
  intro H locs la h1 h2 h3
  obtain ⟨c1, c2, c3⟩ := i32_clamp (j := (ix : Int)) ⟨by omega, by omega⟩ (Nat.blt_eq.mp hn)
  refine W.last hk.1 hk.2.1 (gAr h1 hw) ((hk.ar 1 rfl).1 n f) (fun q => by cases q) (by rw [arrV_size, c1]; exact fun z => z.elim c2 (by rw [Int.toNat_natCast]; omega)) rfl rfl hd fun H1 e z oq => ?_
  rw [c1, Int.toNat_natCast, arrV_store] at e
  rw [c1, Int.toNat_natCast]
  exact kk H1 _ la (h1.set hw e oq) (h2.put z oq (h1.1 i _ hw).2) h3
def b2i (b : Bool) : Int := cond b 1 0
theorem b2i_r (b : Bool) : -2147483648 ≤ b2i b ∧ b2i b < 2147483648 := by cases b <;> decide
theorem b2i_t : b2i true = 1 := rfl
theorem b2i_f : b2i false = 0 := rfl
theorem b2i_n (b : Bool) : narrow .boolean (.int (i32 (b2i b))) = .int (i32 (b2i b)) := by cases b <;> rfl
theorem b2i_fit (b : Bool) : fits .boolean (.int (i32 (b2i b))) = true := by cases b <;> rfl
theorem b2i_0 {b : Bool} : b2i b = 0 ↔ b = false := by cases b <;> decide
theorem b2i_1 {b : Bool} : b2i b ≠ 0 ↔ b = true := by cases b <;> decide
theorem r_zastore {ix : Nat} {a n : Nat} {i : Ix} {f : Nat → Value} {j : Int} {b : Bool} (hk : Ok G K own cc nL ret tb) (hd : decode cc pc = .ok (.bastore, 1) ∧ pc + 1 = q)  (kk : V G K nL Q cs ss q ls st ad (up w i (some (.inr (2, n, updV f ix (.int (i32 (b2i b)))))))) (ha : ad i = a := by rfl) (hw : w i = some (.inr (2, n, f)) := by first | rfl | assumption) (hn : Nat.blt n 2147483648 = true := by rfl) (hj : j = (ix : Int) := by omega) (hjn : ix < n := by omega) : V G K nL Q cs ss pc ls (.int (i32 (b2i b)) :: .int (i32 j) :: .ref a :: st) ad w := by
  obtain ⟨hd, rfl⟩ := hd
  subst ha
  subst hj
  intro H locs la h1 h2 h3
  obtain ⟨c1, c2, c3⟩ := i32_clamp (j := (ix : Int)) ⟨by omega, by omega⟩ (Nat.blt_eq.mp hn)
  refine W.zast hk.1 hk.2.1 (gAr h1 hw) ((hk.ar 2 rfl).1 n f) (fun q => by cases q) (by rw [arrV_size, c1]; exact fun z => z.elim c2 (by rw [Int.toNat_natCast]; omega)) rfl rfl hd fun H1 e z oq => ?_
  rw [c1, Int.toNat_natCast, arrV_store, b2i_n] at e
  rw [c1, Int.toNat_natCast]
  exact kk H1 _ la (h1.set hw e oq) (h2.put z oq (h1.1 i _ hw).2) h3
theorem nbyte {x : Int} (hx : -128 ≤ x ∧ x < 128) : narrow .byte (.int (i32 x)) = .int (i32 x) := by
  show Value.int (i32 x).toInt8.toInt32 = _
  rw [i32_b hx]
theorem r_bastore {ix : Nat} {a n : Nat} {i : Ix} {f : Nat → Value} {j x : Int} (hk : Ok G K own cc nL ret tb) (hd : decode cc pc = .ok (.bastore, 1) ∧ pc + 1 = q)  (kk : V G K nL Q cs ss q ls st ad (up w i (some (.inr (3, n, updV f ix (.int (i32 x))))))) (ha : ad i = a := by rfl) (hw : w i = some (.inr (3, n, f)) := by first | rfl | assumption) (hn : Nat.blt n 2147483648 = true := by rfl) (hj : j = (ix : Int) := by omega) (hjn : ix < n := by omega) (hx : -128 ≤ x ∧ x < 128 := by omega) : V G K nL Q cs ss pc ls (.int (i32 x) :: .int (i32 j) :: .ref a :: st) ad w := by
  obtain ⟨hd, rfl⟩ := hd
  subst ha
  subst hj
  intro H locs la h1 h2 h3
  obtain ⟨c1, c2, c3⟩ := i32_clamp (j := (ix : Int)) ⟨by omega, by omega⟩ (Nat.blt_eq.mp hn)
  refine W.bast hk.1 hk.2.1 (gAr h1 hw) ((hk.ar 3 rfl).1 n f) (fun q => by cases q) (by rw [arrV_size, c1]; exact fun z => z.elim c2 (by rw [Int.toNat_natCast]; omega)) rfl rfl hd fun H1 e z oq => ?_
  rw [c1, Int.toNat_natCast, arrV_store, nbyte hx] at e
  rw [c1, Int.toNat_natCast]
  exact kk H1 _ la (h1.set hw e oq) (h2.put z oq (h1.1 i _ hw).2) h3
/-- an object of the class that the array's kind names goes into the array -/
theorem r_aastore {ix : Nat} {t a b n ci : Nat} {i k : Ix} {f : Nat → Value} {fs : List Value} {j : Int} {C : String} (hk : Ok G K own cc nL ret tb) (hd : decode cc pc = .ok (.aastore, 1) ∧ pc + 1 = q)  (kk : V G K nL Q cs ss q ls st ad (up w i (some (.inr (t, n, updV f ix (.ref b)))))) (ha : ad i = a := by rfl) (hw : w i = some (.inr (t, n, f)) := by first | rfl | assumption) (hn : Nat.blt n 2147483648 = true := by rfl) (hb : ad k = b := by rfl) (hv : w k = some (.inl (ci, fs)) := by first | rfl | assumption) (ht : Nat.blt t 7 = true := by rfl) (hC : aty t = .object C := by rfl) (hc : cls[ci]?.map (fun r => r.1) = some C := by rfl) (hj : j = (ix : Int) := by omega) (hjn : ix < n := by omega) : V G K nL Q cs ss pc ls (.ref b :: .int (i32 j) :: .ref a :: st) ad w := by
  obtain ⟨hd, rfl⟩ := hd
  subst ha
  subst hj
  subst hb
  intro H locs la h1 h2 h3
  obtain ⟨c1, c2, c3⟩ := i32_clamp (j := (ix : Int)) ⟨by omega, by omega⟩ (Nat.blt_eq.mp hn)
  obtain ⟨⟨r, g0, cellV, g1, g2, g3, -⟩, -⟩ := h1.1 k _ hv
  rw [g0] at hc
  have hrC : r.1 = C := Option.some.inj hc
  have hcl := (hk.kk.1 ci r g0).2
  have h9 := (hk.ar t ht).2
  rw [hC] at h9
  obtain ⟨kA, comp, k1, k2, k3, -⟩ := h9
  have hcomp : comp = G.2.1.1 ci := Option.some.inj (k3.symm.trans (by rw [← hrC]; exact hcl.1))
  subst hcomp
  obtain ⟨kC, hkC, -⟩ := hcl.2
  refine W.aast hk.1 hk.2.1 (gAr h1 hw) (fun q h => by cases h) (fun h => by cases h) k1 k2 rfl hkC ⟨c2, by rw [arrV_size, c1]; exact c3⟩ g1 (fun q h => by rw [g3] at h; cases h) (by rw [g2]; exact hkC) (by rw [g2]; exact va_assign hcl) rfl rfl hd fun H1 e z oq => ?_
  rw [c1, Int.toNat_natCast, arrV_store] at e
  rw [c1, Int.toNat_natCast]
  exact kk H1 _ la (h1.set hw e oq) (h2.put z oq (h1.1 i _ hw).2) h3
theorem r_ldc2 {idx : Nat} {v : Int} (hk : Ok G K own cc nL ret tb) (hm : Cond.constantLong own idx (i64 v) ∈ tw) (hd : decode cc pc = .ok (.ldc2_w idx, 3) ∧ pc + 3 = q) (kk : V G K nL Q cs ss q ls (.long (i64 v) :: st) ad w) : V G K nL Q cs ss pc ls st ad w := by
  obtain ⟨hd, rfl⟩ := hd
  exact fun H locs la h1 h2 h3 => lv_ldc2 hk.1 hk.2.1 hk.2.2.2.1 (hk.ts _ hm) hd (kk H locs la h1 h2 h3)
/-- Kind's constants: the k-th -/
theorem r_getK {idx k : Nat} {nm : String} (hk : Ok G K own cc nL ret tb) (hm : Cond.fieldLink own idx "DrumMachine$Kind" nm "LDrumMachine$Kind;" ∈ tw) (hn : knm[k]? = some nm) (hd : decode cc pc = .ok (.getstatic idx, 3) ∧ pc + 3 = q) (kk : V G K nL Q cs ss q ls (.ref (G.2.2.2.1 k) :: st) ad w) : V G K nL Q cs ss pc ls st ad w := by
  obtain ⟨hd, rfl⟩ := hd
  intro H locs la h1 h2 h3
  have hkl : k < knm.length := (List.getElem?_eq_some_iff.mp hn).1
  have hZ := (hk.2.2.2.2.1.2.2.2.1.1 k hkl).1
  have e : knm.getD k "" = nm := by rw [List.getD_eq_getElem?_getD, hn]; rfl
  rw [e] at hZ
  exact va_gets hk.1 hk.2.1 hZ h2 hk.2.2.2.1 (hk.ts _ hm) (fun _ h9 => h9) hd (kk H locs la h1 h2 h3)
theorem kinds_ne (hk : Ok G K own cc nL ret tb) {a b : Nat} (ha : a < 13) (hb : b < 13) (h : G.2.2.2.1 a = G.2.2.2.1 b) : a = b := hk.2.2.2.2.1.2.2.2.1.2 a b ha hb h
end HEAP
