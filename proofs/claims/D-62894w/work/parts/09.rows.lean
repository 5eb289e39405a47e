theorem r_iconst {G : Gt} {K : Kt} {own : String} {cc : ByteArray} {nL : Nat} {ret : Option FieldType} {tb : List ExceptionTableEntry} {Q : State → Prop} {cs ss pc q : Nat} {ls : List (Option Value)} {st : List Value} {ad : Ix → Nat} {w : Wt} {n : Int} (hk : Ok G K own cc nL ret tb) (hd : decode cc pc = .ok (.iconst n, 1) ∧ pc + 1 = q) (kk : V G K nL Q cs ss q ls (.int (i32 n) :: st) ad w) : V G K nL Q cs ss pc ls (st) ad w := by
  obtain ⟨hd, rfl⟩ := hd
  intro H locs la h1 h2 h3
  exact lv_iconst hk.1 hk.2.1 hd rfl (kk H locs la h1 h2 h3)
theorem r_bipush {G : Gt} {K : Kt} {own : String} {cc : ByteArray} {nL : Nat} {ret : Option FieldType} {tb : List ExceptionTableEntry} {Q : State → Prop} {cs ss pc q : Nat} {ls : List (Option Value)} {st : List Value} {ad : Ix → Nat} {w : Wt} {n : Int} (hk : Ok G K own cc nL ret tb) (hd : decode cc pc = .ok (.bipush n, 2) ∧ pc + 2 = q) (hn : -128 ≤ n ∧ n < 128) (kk : V G K nL Q cs ss q ls (.int (i32 n) :: st) ad w) : V G K nL Q cs ss pc ls (st) ad w := by
  obtain ⟨hd, rfl⟩ := hd
  intro H locs la h1 h2 h3
  exact lv_bipush hk.1 hk.2.1 hd (i8_i32 hn) (kk H locs la h1 h2 h3)
theorem r_sipush {G : Gt} {K : Kt} {own : String} {cc : ByteArray} {nL : Nat} {ret : Option FieldType} {tb : List ExceptionTableEntry} {Q : State → Prop} {cs ss pc q : Nat} {ls : List (Option Value)} {st : List Value} {ad : Ix → Nat} {w : Wt} {n : Int} (hk : Ok G K own cc nL ret tb) (hd : decode cc pc = .ok (.sipush n, 3) ∧ pc + 3 = q) (hn : -32768 ≤ n ∧ n < 32768) (kk : V G K nL Q cs ss q ls (.int (i32 n) :: st) ad w) : V G K nL Q cs ss pc ls (st) ad w := by
  obtain ⟨hd, rfl⟩ := hd
  intro H locs la h1 h2 h3
  exact lv_sipush hk.1 hk.2.1 hd (i16_i32 hn) (kk H locs la h1 h2 h3)
theorem r_lconst {G : Gt} {K : Kt} {own : String} {cc : ByteArray} {nL : Nat} {ret : Option FieldType} {tb : List ExceptionTableEntry} {Q : State → Prop} {cs ss pc q : Nat} {ls : List (Option Value)} {st : List Value} {ad : Ix → Nat} {w : Wt} {n : Fin 2} {z : Int} (hk : Ok G K own cc nL ret tb) (hd : decode cc pc = .ok (.lconst n, 1) ∧ pc + 1 = q) (hz : ((n : Nat) : Int) = z) (kk : V G K nL Q cs ss q ls (.long (i64 z) :: st) ad w) : V G K nL Q cs ss pc ls (st) ad w := by
  obtain ⟨hd, rfl⟩ := hd
  intro H locs la h1 h2 h3
  exact lv_lconst hk.1 hk.2.1 hd (by subst hz; rfl) (kk H locs la h1 h2 h3)
theorem r_iload_n {G : Gt} {K : Kt} {own : String} {cc : ByteArray} {nL : Nat} {ret : Option FieldType} {tb : List ExceptionTableEntry} {Q : State → Prop} {cs ss pc q : Nat} {ls : List (Option Value)} {st : List Value} {ad : Ix → Nat} {w : Wt} {n : Fin 4} {i : Nat} {x : Int32} (hk : Ok G K own cc nL ret tb) (hd : decode cc pc = .ok (.iload_n n, 1) ∧ pc + 1 = q) (hl : ls[i]? = some (some (.int x))) (hi : (n : Nat) = i) (kk : V G K nL Q cs ss q ls (.int x :: st) ad w) : V G K nL Q cs ss pc ls (st) ad w := by
  obtain ⟨hd, rfl⟩ := hd
  intro H locs la h1 h2 h3
  exact lv_iload_n hk.1 hk.2.1 hd hi (h3.2.2 i _ hl) (kk H locs la h1 h2 h3)
theorem r_iload {G : Gt} {K : Kt} {own : String} {cc : ByteArray} {nL : Nat} {ret : Option FieldType} {tb : List ExceptionTableEntry} {Q : State → Prop} {cs ss pc q : Nat} {ls : List (Option Value)} {st : List Value} {ad : Ix → Nat} {w : Wt} {i : Nat} {x : Int32} (hk : Ok G K own cc nL ret tb) (hd : decode cc pc = .ok (.iload i, 2) ∧ pc + 2 = q) (hl : ls[i]? = some (some (.int x))) (kk : V G K nL Q cs ss q ls (.int x :: st) ad w) : V G K nL Q cs ss pc ls (st) ad w := by
  obtain ⟨hd, rfl⟩ := hd
  intro H locs la h1 h2 h3
  exact lv_iload hk.1 hk.2.1 hd (h3.2.2 i _ hl) (kk H locs la h1 h2 h3)
theorem r_lload_n {G : Gt} {K : Kt} {own : String} {cc : ByteArray} {nL : Nat} {ret : Option FieldType} {tb : List ExceptionTableEntry} {Q : State → Prop} {cs ss pc q : Nat} {ls : List (Option Value)} {st : List Value} {ad : Ix → Nat} {w : Wt} {n : Fin 4} {i : Nat} {x : Int64} (hk : Ok G K own cc nL ret tb) (hd : decode cc pc = .ok (.lload_n n, 1) ∧ pc + 1 = q) (hl : ls[i]? = some (some (.long x))) (hi : (n : Nat) = i) (kk : V G K nL Q cs ss q ls (.long x :: st) ad w) : V G K nL Q cs ss pc ls (st) ad w := by
  obtain ⟨hd, rfl⟩ := hd
  intro H locs la h1 h2 h3
  exact lv_lload_n hk.1 hk.2.1 hd hi (h3.2.2 i _ hl) (kk H locs la h1 h2 h3)
theorem r_lload {G : Gt} {K : Kt} {own : String} {cc : ByteArray} {nL : Nat} {ret : Option FieldType} {tb : List ExceptionTableEntry} {Q : State → Prop} {cs ss pc q : Nat} {ls : List (Option Value)} {st : List Value} {ad : Ix → Nat} {w : Wt} {i : Nat} {x : Int64} (hk : Ok G K own cc nL ret tb) (hd : decode cc pc = .ok (.lload i, 2) ∧ pc + 2 = q) (hl : ls[i]? = some (some (.long x))) (kk : V G K nL Q cs ss q ls (.long x :: st) ad w) : V G K nL Q cs ss pc ls (st) ad w := by
  obtain ⟨hd, rfl⟩ := hd
  intro H locs la h1 h2 h3
  exact lv_lload hk.1 hk.2.1 hd (h3.2.2 i _ hl) (kk H locs la h1 h2 h3)
theorem r_aload_n {G : Gt} {K : Kt} {own : String} {cc : ByteArray} {nL : Nat} {ret : Option FieldType} {tb : List ExceptionTableEntry} {Q : State → Prop} {cs ss pc q : Nat} {ls : List (Option Value)} {st : List Value} {ad : Ix → Nat} {w : Wt} {n : Fin 4} {i : Nat} {x : Nat} (hk : Ok G K own cc nL ret tb) (hd : decode cc pc = .ok (.aload_n n, 1) ∧ pc + 1 = q) (hl : ls[i]? = some (some (.ref x))) (hi : (n : Nat) = i) (kk : V G K nL Q cs ss q ls (.ref x :: st) ad w) : V G K nL Q cs ss pc ls (st) ad w := by
  obtain ⟨hd, rfl⟩ := hd
  intro H locs la h1 h2 h3
  exact lv_aload_n hk.1 hk.2.1 hd hi (h3.2.2 i _ hl) (kk H locs la h1 h2 h3)
theorem r_aload {G : Gt} {K : Kt} {own : String} {cc : ByteArray} {nL : Nat} {ret : Option FieldType} {tb : List ExceptionTableEntry} {Q : State → Prop} {cs ss pc q : Nat} {ls : List (Option Value)} {st : List Value} {ad : Ix → Nat} {w : Wt} {i : Nat} {x : Nat} (hk : Ok G K own cc nL ret tb) (hd : decode cc pc = .ok (.aload i, 2) ∧ pc + 2 = q) (hl : ls[i]? = some (some (.ref x))) (kk : V G K nL Q cs ss q ls (.ref x :: st) ad w) : V G K nL Q cs ss pc ls (st) ad w := by
  obtain ⟨hd, rfl⟩ := hd
  intro H locs la h1 h2 h3
  exact lv_aload hk.1 hk.2.1 hd (h3.2.2 i _ hl) (kk H locs la h1 h2 h3)
theorem r_istore_n {G : Gt} {K : Kt} {own : String} {cc : ByteArray} {nL : Nat} {ret : Option FieldType} {tb : List ExceptionTableEntry} {Q : State → Prop} {cs ss pc q : Nat} {ls : List (Option Value)} {st : List Value} {ad : Ix → Nat} {w : Wt} {n : Fin 4} {i : Nat} {x : Int32} {ls' : List (Option Value)} (hk : Ok G K own cc nL ret tb) (hd : decode cc pc = .ok (.istore_n n, 1) ∧ pc + 1 = q) (hi : (n : Nat) = i) (hp : okp ls i = true) (hn : Nat.blt i nL = true) (hl : ls.set i (some (.int x)) = ls') (kk : V G K nL Q cs ss q ls' st ad w) : V G K nL Q cs ss pc ls (.int x :: st) ad w := by
  obtain ⟨hd, rfl⟩ := hd
  subst hl
  intro H locs la h1 h2 h3
  exact lv_istore_n hk.1 hk.2.1 hd hi h3.has (Nat.blt_eq.mp hn) rfl (fun la' h' => kk H locs la' h1 h2 (lvo.st1 h' hp))
theorem r_istore {G : Gt} {K : Kt} {own : String} {cc : ByteArray} {nL : Nat} {ret : Option FieldType} {tb : List ExceptionTableEntry} {Q : State → Prop} {cs ss pc q : Nat} {ls : List (Option Value)} {st : List Value} {ad : Ix → Nat} {w : Wt} {i : Nat} {x : Int32} {ls' : List (Option Value)} (hk : Ok G K own cc nL ret tb) (hd : decode cc pc = .ok (.istore i, 2) ∧ pc + 2 = q) (hp : okp ls i = true) (hn : Nat.blt i nL = true) (hl : ls.set i (some (.int x)) = ls') (kk : V G K nL Q cs ss q ls' st ad w) : V G K nL Q cs ss pc ls (.int x :: st) ad w := by
  obtain ⟨hd, rfl⟩ := hd
  subst hl
  intro H locs la h1 h2 h3
  exact lv_istore hk.1 hk.2.1 hd h3.has (Nat.blt_eq.mp hn) rfl (fun la' h' => kk H locs la' h1 h2 (lvo.st1 h' hp))
theorem r_astore_n {G : Gt} {K : Kt} {own : String} {cc : ByteArray} {nL : Nat} {ret : Option FieldType} {tb : List ExceptionTableEntry} {Q : State → Prop} {cs ss pc q : Nat} {ls : List (Option Value)} {st : List Value} {ad : Ix → Nat} {w : Wt} {n : Fin 4} {i : Nat} {x : Nat} {ls' : List (Option Value)} (hk : Ok G K own cc nL ret tb) (hd : decode cc pc = .ok (.astore_n n, 1) ∧ pc + 1 = q) (hi : (n : Nat) = i) (hp : okp ls i = true) (hn : Nat.blt i nL = true) (hl : ls.set i (some (.ref x)) = ls') (kk : V G K nL Q cs ss q ls' st ad w) : V G K nL Q cs ss pc ls (.ref x :: st) ad w := by
  obtain ⟨hd, rfl⟩ := hd
  subst hl
  intro H locs la h1 h2 h3
  exact lv_astore_n hk.1 hk.2.1 hd hi h3.has (Nat.blt_eq.mp hn) rfl (fun la' h' => kk H locs la' h1 h2 (lvo.st1 h' hp))
theorem r_astore {G : Gt} {K : Kt} {own : String} {cc : ByteArray} {nL : Nat} {ret : Option FieldType} {tb : List ExceptionTableEntry} {Q : State → Prop} {cs ss pc q : Nat} {ls : List (Option Value)} {st : List Value} {ad : Ix → Nat} {w : Wt} {i : Nat} {x : Nat} {ls' : List (Option Value)} (hk : Ok G K own cc nL ret tb) (hd : decode cc pc = .ok (.astore i, 2) ∧ pc + 2 = q) (hp : okp ls i = true) (hn : Nat.blt i nL = true) (hl : ls.set i (some (.ref x)) = ls') (kk : V G K nL Q cs ss q ls' st ad w) : V G K nL Q cs ss pc ls (.ref x :: st) ad w := by
  obtain ⟨hd, rfl⟩ := hd
  subst hl
  intro H locs la h1 h2 h3
  exact lv_astore hk.1 hk.2.1 hd h3.has (Nat.blt_eq.mp hn) rfl (fun la' h' => kk H locs la' h1 h2 (lvo.st1 h' hp))
theorem r_lstore_n {G : Gt} {K : Kt} {own : String} {cc : ByteArray} {nL : Nat} {ret : Option FieldType} {tb : List ExceptionTableEntry} {Q : State → Prop} {cs ss pc q : Nat} {ls : List (Option Value)} {st : List Value} {ad : Ix → Nat} {w : Wt} {n : Fin 4} {i : Nat} {x : Int64} {ls' : List (Option Value)} (hk : Ok G K own cc nL ret tb) (hd : decode cc pc = .ok (.lstore_n n, 1) ∧ pc + 1 = q) (hi : (n : Nat) = i) (hp : okp ls i = true) (hn : Nat.blt (i + 1) nL = true) (hl : (ls.set i (some (.long x))).set (i + 1) none = ls') (kk : V G K nL Q cs ss q ls' st ad w) : V G K nL Q cs ss pc ls (.long x :: st) ad w := by
  obtain ⟨hd, rfl⟩ := hd
  subst hl
  intro H locs la h1 h2 h3
  exact lv_lstore_n hk.1 hk.2.1 hd hi h3.has (Nat.blt_eq.mp hn) rfl (fun la' h' => kk H locs la' h1 h2 (lvo.st2 h' hp))
theorem r_lstore {G : Gt} {K : Kt} {own : String} {cc : ByteArray} {nL : Nat} {ret : Option FieldType} {tb : List ExceptionTableEntry} {Q : State → Prop} {cs ss pc q : Nat} {ls : List (Option Value)} {st : List Value} {ad : Ix → Nat} {w : Wt} {i : Nat} {x : Int64} {ls' : List (Option Value)} (hk : Ok G K own cc nL ret tb) (hd : decode cc pc = .ok (.lstore i, 2) ∧ pc + 2 = q) (hp : okp ls i = true) (hn : Nat.blt (i + 1) nL = true) (hl : (ls.set i (some (.long x))).set (i + 1) none = ls') (kk : V G K nL Q cs ss q ls' st ad w) : V G K nL Q cs ss pc ls (.long x :: st) ad w := by
  obtain ⟨hd, rfl⟩ := hd
  subst hl
  intro H locs la h1 h2 h3
  exact lv_lstore hk.1 hk.2.1 hd h3.has (Nat.blt_eq.mp hn) rfl (fun la' h' => kk H locs la' h1 h2 (lvo.st2 h' hp))
theorem r_iinc {G : Gt} {K : Kt} {own : String} {cc : ByteArray} {nL : Nat} {ret : Option FieldType} {tb : List ExceptionTableEntry} {Q : State → Prop} {cs ss pc q : Nat} {ls : List (Option Value)} {st : List Value} {ad : Ix → Nat} {w : Wt} {i : Nat} {n x : Int} {ls' : List (Option Value)} (hk : Ok G K own cc nL ret tb) (hd : decode cc pc = .ok (.iinc i n, 3) ∧ pc + 3 = q) (hx : ls[i]? = some (some (.int (i32 x)))) (hp : okp ls i = true) (hn : Nat.blt i nL = true) (hl : ls.set i (some (.int (i32 (x + n)))) = ls') (kk : V G K nL Q cs ss q ls' st ad w) : V G K nL Q cs ss pc ls st ad w := by
  obtain ⟨hd, rfl⟩ := hd
  subst hl
  intro H locs la h1 h2 h3
  obtain ⟨k, hk9⟩ := List.getElem?_of_mem (lvp_mem hx)
  exact lv_iinc (v := i32 (x + n)) hk.1 hk.2.1 hd h3.has hk9 (i32_add x n) (Nat.blt_eq.mp hn) rfl (fun la' h' => kk H locs la' h1 h2 (lvo.st1 h' hp))
theorem r_iadd {G : Gt} {K : Kt} {own : String} {cc : ByteArray} {nL : Nat} {ret : Option FieldType} {tb : List ExceptionTableEntry} {Q : State → Prop} {cs ss pc q : Nat} {ls : List (Option Value)} {st : List Value} {ad : Ix → Nat} {w : Wt} {x y : Int} (hk : Ok G K own cc nL ret tb) (hd : decode cc pc = .ok (.iadd, 1) ∧ pc + 1 = q) (kk : V G K nL Q cs ss q ls (.int (i32 (x + y)) :: st) ad w) : V G K nL Q cs ss pc ls (.int (i32 y) :: .int (i32 x) :: st) ad w := by
  obtain ⟨hd, rfl⟩ := hd
  intro H locs la h1 h2 h3
  exact lv_iadd hk.1 hk.2.1 hd (by rw [i32_add]; exact kk H locs la h1 h2 h3)
theorem r_ladd {G : Gt} {K : Kt} {own : String} {cc : ByteArray} {nL : Nat} {ret : Option FieldType} {tb : List ExceptionTableEntry} {Q : State → Prop} {cs ss pc q : Nat} {ls : List (Option Value)} {st : List Value} {ad : Ix → Nat} {w : Wt} {x y : Int} (hk : Ok G K own cc nL ret tb) (hd : decode cc pc = .ok (.ladd, 1) ∧ pc + 1 = q) (kk : V G K nL Q cs ss q ls (.long (i64 (x + y)) :: st) ad w) : V G K nL Q cs ss pc ls (.long (i64 y) :: .long (i64 x) :: st) ad w := by
  obtain ⟨hd, rfl⟩ := hd
  intro H locs la h1 h2 h3
  exact lv_ladd hk.1 hk.2.1 hd (by rw [i64_add]; exact kk H locs la h1 h2 h3)
theorem r_isub {G : Gt} {K : Kt} {own : String} {cc : ByteArray} {nL : Nat} {ret : Option FieldType} {tb : List ExceptionTableEntry} {Q : State → Prop} {cs ss pc q : Nat} {ls : List (Option Value)} {st : List Value} {ad : Ix → Nat} {w : Wt} {x y : Int} (hk : Ok G K own cc nL ret tb) (hd : decode cc pc = .ok (.isub, 1) ∧ pc + 1 = q) (kk : V G K nL Q cs ss q ls (.int (i32 (x - y)) :: st) ad w) : V G K nL Q cs ss pc ls (.int (i32 y) :: .int (i32 x) :: st) ad w := by
  obtain ⟨hd, rfl⟩ := hd
  intro H locs la h1 h2 h3
  exact lv_isub hk.1 hk.2.1 hd (by rw [i32_sub]; exact kk H locs la h1 h2 h3)
theorem r_lsub {G : Gt} {K : Kt} {own : String} {cc : ByteArray} {nL : Nat} {ret : Option FieldType} {tb : List ExceptionTableEntry} {Q : State → Prop} {cs ss pc q : Nat} {ls : List (Option Value)} {st : List Value} {ad : Ix → Nat} {w : Wt} {x y : Int} (hk : Ok G K own cc nL ret tb) (hd : decode cc pc = .ok (.lsub, 1) ∧ pc + 1 = q) (kk : V G K nL Q cs ss q ls (.long (i64 (x - y)) :: st) ad w) : V G K nL Q cs ss pc ls (.long (i64 y) :: .long (i64 x) :: st) ad w := by
  obtain ⟨hd, rfl⟩ := hd
  intro H locs la h1 h2 h3
  exact lv_lsub hk.1 hk.2.1 hd (by rw [i64_sub]; exact kk H locs la h1 h2 h3)
theorem r_imul {G : Gt} {K : Kt} {own : String} {cc : ByteArray} {nL : Nat} {ret : Option FieldType} {tb : List ExceptionTableEntry} {Q : State → Prop} {cs ss pc q : Nat} {ls : List (Option Value)} {st : List Value} {ad : Ix → Nat} {w : Wt} {x y : Int} (hk : Ok G K own cc nL ret tb) (hd : decode cc pc = .ok (.imul, 1) ∧ pc + 1 = q) (kk : V G K nL Q cs ss q ls (.int (i32 (x * y)) :: st) ad w) : V G K nL Q cs ss pc ls (.int (i32 y) :: .int (i32 x) :: st) ad w := by
  obtain ⟨hd, rfl⟩ := hd
  intro H locs la h1 h2 h3
  exact lv_imul hk.1 hk.2.1 hd (by rw [i32_mul]; exact kk H locs la h1 h2 h3)
theorem r_lmul {G : Gt} {K : Kt} {own : String} {cc : ByteArray} {nL : Nat} {ret : Option FieldType} {tb : List ExceptionTableEntry} {Q : State → Prop} {cs ss pc q : Nat} {ls : List (Option Value)} {st : List Value} {ad : Ix → Nat} {w : Wt} {x y : Int} (hk : Ok G K own cc nL ret tb) (hd : decode cc pc = .ok (.lmul, 1) ∧ pc + 1 = q) (kk : V G K nL Q cs ss q ls (.long (i64 (x * y)) :: st) ad w) : V G K nL Q cs ss pc ls (.long (i64 y) :: .long (i64 x) :: st) ad w := by
  obtain ⟨hd, rfl⟩ := hd
  intro H locs la h1 h2 h3
  exact lv_lmul hk.1 hk.2.1 hd (by rw [i64_mul]; exact kk H locs la h1 h2 h3)
theorem r_idiv {G : Gt} {K : Kt} {own : String} {cc : ByteArray} {nL : Nat} {ret : Option FieldType} {tb : List ExceptionTableEntry} {Q : State → Prop} {cs ss pc q : Nat} {ls : List (Option Value)} {st : List Value} {ad : Ix → Nat} {w : Wt} {x y : Int} (hk : Ok G K own cc nL ret tb) (hd : decode cc pc = .ok (.idiv, 1) ∧ pc + 1 = q) (hx : 0 ≤ x ∧ x < 2147483648) (hy : 0 < y ∧ y < 2147483648) (kk : V G K nL Q cs ss q ls (.int (i32 (x / y)) :: st) ad w) : V G K nL Q cs ss pc ls (.int (i32 y) :: .int (i32 x) :: st) ad w := by
  obtain ⟨hd, rfl⟩ := hd
  intro H locs la h1 h2 h3
  exact lv_idiv hk.1 hk.2.1 hd (i32_ne hy) (by rw [i32_div hx hy]; exact kk H locs la h1 h2 h3)
theorem r_irem {G : Gt} {K : Kt} {own : String} {cc : ByteArray} {nL : Nat} {ret : Option FieldType} {tb : List ExceptionTableEntry} {Q : State → Prop} {cs ss pc q : Nat} {ls : List (Option Value)} {st : List Value} {ad : Ix → Nat} {w : Wt} {x y : Int} (hk : Ok G K own cc nL ret tb) (hd : decode cc pc = .ok (.irem, 1) ∧ pc + 1 = q) (hx : 0 ≤ x ∧ x < 2147483648) (hy : 0 < y ∧ y < 2147483648) (kk : V G K nL Q cs ss q ls (.int (i32 (x % y)) :: st) ad w) : V G K nL Q cs ss pc ls (.int (i32 y) :: .int (i32 x) :: st) ad w := by
  obtain ⟨hd, rfl⟩ := hd
  intro H locs la h1 h2 h3
  exact lv_irem hk.1 hk.2.1 hd (i32_ne hy) (by rw [i32_rem hx hy]; exact kk H locs la h1 h2 h3)
theorem r_ldiv {G : Gt} {K : Kt} {own : String} {cc : ByteArray} {nL : Nat} {ret : Option FieldType} {tb : List ExceptionTableEntry} {Q : State → Prop} {cs ss pc q : Nat} {ls : List (Option Value)} {st : List Value} {ad : Ix → Nat} {w : Wt} {x y : Int} (hk : Ok G K own cc nL ret tb) (hd : decode cc pc = .ok (.ldiv, 1) ∧ pc + 1 = q) (hx : 0 ≤ x ∧ x < 9223372036854775808) (hy : 0 < y ∧ y < 9223372036854775808) (kk : V G K nL Q cs ss q ls (.long (i64 (x / y)) :: st) ad w) : V G K nL Q cs ss pc ls (.long (i64 y) :: .long (i64 x) :: st) ad w := by
  obtain ⟨hd, rfl⟩ := hd
  intro H locs la h1 h2 h3
  exact lv_ldiv hk.1 hk.2.1 hd (i64_ne hy) (by rw [i64_div hx hy]; exact kk H locs la h1 h2 h3)
theorem r_lrem {G : Gt} {K : Kt} {own : String} {cc : ByteArray} {nL : Nat} {ret : Option FieldType} {tb : List ExceptionTableEntry} {Q : State → Prop} {cs ss pc q : Nat} {ls : List (Option Value)} {st : List Value} {ad : Ix → Nat} {w : Wt} {x y : Int} (hk : Ok G K own cc nL ret tb) (hd : decode cc pc = .ok (.lrem, 1) ∧ pc + 1 = q) (hx : 0 ≤ x ∧ x < 9223372036854775808) (hy : 0 < y ∧ y < 9223372036854775808) (kk : V G K nL Q cs ss q ls (.long (i64 (x % y)) :: st) ad w) : V G K nL Q cs ss pc ls (.long (i64 y) :: .long (i64 x) :: st) ad w := by
  obtain ⟨hd, rfl⟩ := hd
  intro H locs la h1 h2 h3
  exact lv_lrem hk.1 hk.2.1 hd (i64_ne hy) (by rw [i64_rem hx hy]; exact kk H locs la h1 h2 h3)
theorem r_lremS {G : Gt} {K : Kt} {own : String} {cc : ByteArray} {nL : Nat} {ret : Option FieldType} {tb : List ExceptionTableEntry} {Q : State → Prop} {cs ss pc q : Nat} {ls : List (Option Value)} {st : List Value} {ad : Ix → Nat} {w : Wt} {x y : Int} (hk : Ok G K own cc nL ret tb) (hd : decode cc pc = .ok (.lrem, 1) ∧ pc + 1 = q) (hx : -4611686018427387904 ≤ x ∧ x < 4611686018427387904) (hy : 0 < y ∧ y < 4611686018427387904) (kk : V G K nL Q cs ss q ls (.long (i64 (x.tmod y)) :: st) ad w) : V G K nL Q cs ss pc ls (.long (i64 y) :: .long (i64 x) :: st) ad w := by
  obtain ⟨hd, rfl⟩ := hd
  intro H locs la h1 h2 h3
  exact lv_lrem hk.1 hk.2.1 hd (i64_ne ⟨hy.1, by omega⟩) (by rw [i64_tmod hx hy]; exact kk H locs la h1 h2 h3)
theorem r_lneg {G : Gt} {K : Kt} {own : String} {cc : ByteArray} {nL : Nat} {ret : Option FieldType} {tb : List ExceptionTableEntry} {Q : State → Prop} {cs ss pc q : Nat} {ls : List (Option Value)} {st : List Value} {ad : Ix → Nat} {w : Wt} {x : Int} (hk : Ok G K own cc nL ret tb) (hd : decode cc pc = .ok (.lneg, 1) ∧ pc + 1 = q) (kk : V G K nL Q cs ss q ls (.long (i64 (-x)) :: st) ad w) : V G K nL Q cs ss pc ls (.long (i64 x) :: st) ad w := by
  obtain ⟨hd, rfl⟩ := hd
  intro H locs la h1 h2 h3
  exact lv_lneg hk.1 hk.2.1 hd (by rw [i64_neg]; exact kk H locs la h1 h2 h3)
theorem r_i2l {G : Gt} {K : Kt} {own : String} {cc : ByteArray} {nL : Nat} {ret : Option FieldType} {tb : List ExceptionTableEntry} {Q : State → Prop} {cs ss pc q : Nat} {ls : List (Option Value)} {st : List Value} {ad : Ix → Nat} {w : Wt} {x : Int} (hk : Ok G K own cc nL ret tb) (hd : decode cc pc = .ok (.i2l, 1) ∧ pc + 1 = q) (hx : -2147483648 ≤ x ∧ x < 2147483648) (kk : V G K nL Q cs ss q ls (.long (i64 x) :: st) ad w) : V G K nL Q cs ss pc ls (.int (i32 x) :: st) ad w := by
  obtain ⟨hd, rfl⟩ := hd
  intro H locs la h1 h2 h3
  exact lv_i2l hk.1 hk.2.1 hd (i32_l hx) (kk H locs la h1 h2 h3)
theorem r_l2i {G : Gt} {K : Kt} {own : String} {cc : ByteArray} {nL : Nat} {ret : Option FieldType} {tb : List ExceptionTableEntry} {Q : State → Prop} {cs ss pc q : Nat} {ls : List (Option Value)} {st : List Value} {ad : Ix → Nat} {w : Wt} {x : Int} (hk : Ok G K own cc nL ret tb) (hd : decode cc pc = .ok (.l2i, 1) ∧ pc + 1 = q) (kk : V G K nL Q cs ss q ls (.int (i32 x) :: st) ad w) : V G K nL Q cs ss pc ls (.long (i64 x) :: st) ad w := by
  obtain ⟨hd, rfl⟩ := hd
  intro H locs la h1 h2 h3
  exact lv_l2i hk.1 hk.2.1 hd (i64_i x) (kk H locs la h1 h2 h3)
theorem r_i2b {G : Gt} {K : Kt} {own : String} {cc : ByteArray} {nL : Nat} {ret : Option FieldType} {tb : List ExceptionTableEntry} {Q : State → Prop} {cs ss pc q : Nat} {ls : List (Option Value)} {st : List Value} {ad : Ix → Nat} {w : Wt} {x : Int} (hk : Ok G K own cc nL ret tb) (hd : decode cc pc = .ok (.i2b, 1) ∧ pc + 1 = q) (hx : -128 ≤ x ∧ x < 128) (kk : V G K nL Q cs ss q ls (.int (i32 x) :: st) ad w) : V G K nL Q cs ss pc ls (.int (i32 x) :: st) ad w := by
  obtain ⟨hd, rfl⟩ := hd
  intro H locs la h1 h2 h3
  exact lv_i2b hk.1 hk.2.1 hd (i32_b hx) (kk H locs la h1 h2 h3)
theorem r_iand {G : Gt} {K : Kt} {own : String} {cc : ByteArray} {nL : Nat} {ret : Option FieldType} {tb : List ExceptionTableEntry} {Q : State → Prop} {cs ss pc q : Nat} {ls : List (Option Value)} {st : List Value} {ad : Ix → Nat} {w : Wt} {x y v : Int32} (hk : Ok G K own cc nL ret tb) (hd : decode cc pc = .ok (.iand, 1) ∧ pc + 1 = q) (hv : x &&& y = v) (kk : V G K nL Q cs ss q ls (.int v :: st) ad w) : V G K nL Q cs ss pc ls (.int y :: .int x :: st) ad w := by
  obtain ⟨hd, rfl⟩ := hd
  intro H locs la h1 h2 h3
  exact lv_iand hk.1 hk.2.1 hd (by rw [hv]; exact kk H locs la h1 h2 h3)
theorem r_ior {G : Gt} {K : Kt} {own : String} {cc : ByteArray} {nL : Nat} {ret : Option FieldType} {tb : List ExceptionTableEntry} {Q : State → Prop} {cs ss pc q : Nat} {ls : List (Option Value)} {st : List Value} {ad : Ix → Nat} {w : Wt} {x y v : Int32} (hk : Ok G K own cc nL ret tb) (hd : decode cc pc = .ok (.ior, 1) ∧ pc + 1 = q) (hv : x ||| y = v) (kk : V G K nL Q cs ss q ls (.int v :: st) ad w) : V G K nL Q cs ss pc ls (.int y :: .int x :: st) ad w := by
  obtain ⟨hd, rfl⟩ := hd
  intro H locs la h1 h2 h3
  exact lv_ior hk.1 hk.2.1 hd (by rw [hv]; exact kk H locs la h1 h2 h3)
theorem r_ixor {G : Gt} {K : Kt} {own : String} {cc : ByteArray} {nL : Nat} {ret : Option FieldType} {tb : List ExceptionTableEntry} {Q : State → Prop} {cs ss pc q : Nat} {ls : List (Option Value)} {st : List Value} {ad : Ix → Nat} {w : Wt} {x y v : Int32} (hk : Ok G K own cc nL ret tb) (hd : decode cc pc = .ok (.ixor, 1) ∧ pc + 1 = q) (hv : x ^^^ y = v) (kk : V G K nL Q cs ss q ls (.int v :: st) ad w) : V G K nL Q cs ss pc ls (.int y :: .int x :: st) ad w := by
  obtain ⟨hd, rfl⟩ := hd
  intro H locs la h1 h2 h3
  exact lv_ixor hk.1 hk.2.1 hd (by rw [hv]; exact kk H locs la h1 h2 h3)
theorem r_ishl {G : Gt} {K : Kt} {own : String} {cc : ByteArray} {nL : Nat} {ret : Option FieldType} {tb : List ExceptionTableEntry} {Q : State → Prop} {cs ss pc q : Nat} {ls : List (Option Value)} {st : List Value} {ad : Ix → Nat} {w : Wt} {x y v : Int32} (hk : Ok G K own cc nL ret tb) (hd : decode cc pc = .ok (.ishl, 1) ∧ pc + 1 = q) (hv : x <<< (y &&& 31) = v) (kk : V G K nL Q cs ss q ls (.int v :: st) ad w) : V G K nL Q cs ss pc ls (.int y :: .int x :: st) ad w := by
  obtain ⟨hd, rfl⟩ := hd
  intro H locs la h1 h2 h3
  exact lv_ishl hk.1 hk.2.1 hd (by rw [hv]; exact kk H locs la h1 h2 h3)
theorem r_ishr {G : Gt} {K : Kt} {own : String} {cc : ByteArray} {nL : Nat} {ret : Option FieldType} {tb : List ExceptionTableEntry} {Q : State → Prop} {cs ss pc q : Nat} {ls : List (Option Value)} {st : List Value} {ad : Ix → Nat} {w : Wt} {x y v : Int32} (hk : Ok G K own cc nL ret tb) (hd : decode cc pc = .ok (.ishr, 1) ∧ pc + 1 = q) (hv : x >>> (y &&& 31) = v) (kk : V G K nL Q cs ss q ls (.int v :: st) ad w) : V G K nL Q cs ss pc ls (.int y :: .int x :: st) ad w := by
  obtain ⟨hd, rfl⟩ := hd
  intro H locs la h1 h2 h3
  exact lv_ishr hk.1 hk.2.1 hd (by rw [hv]; exact kk H locs la h1 h2 h3)
theorem r_land {G : Gt} {K : Kt} {own : String} {cc : ByteArray} {nL : Nat} {ret : Option FieldType} {tb : List ExceptionTableEntry} {Q : State → Prop} {cs ss pc q : Nat} {ls : List (Option Value)} {st : List Value} {ad : Ix → Nat} {w : Wt} {x y v : Int64} (hk : Ok G K own cc nL ret tb) (hd : decode cc pc = .ok (.land, 1) ∧ pc + 1 = q) (hv : x &&& y = v) (kk : V G K nL Q cs ss q ls (.long v :: st) ad w) : V G K nL Q cs ss pc ls (.long y :: .long x :: st) ad w := by
  obtain ⟨hd, rfl⟩ := hd
  intro H locs la h1 h2 h3
  exact lv_land hk.1 hk.2.1 hd (by rw [hv]; exact kk H locs la h1 h2 h3)
theorem r_lor {G : Gt} {K : Kt} {own : String} {cc : ByteArray} {nL : Nat} {ret : Option FieldType} {tb : List ExceptionTableEntry} {Q : State → Prop} {cs ss pc q : Nat} {ls : List (Option Value)} {st : List Value} {ad : Ix → Nat} {w : Wt} {x y v : Int64} (hk : Ok G K own cc nL ret tb) (hd : decode cc pc = .ok (.lor, 1) ∧ pc + 1 = q) (hv : x ||| y = v) (kk : V G K nL Q cs ss q ls (.long v :: st) ad w) : V G K nL Q cs ss pc ls (.long y :: .long x :: st) ad w := by
  obtain ⟨hd, rfl⟩ := hd
  intro H locs la h1 h2 h3
  exact lv_lor hk.1 hk.2.1 hd (by rw [hv]; exact kk H locs la h1 h2 h3)
theorem r_lshl {G : Gt} {K : Kt} {own : String} {cc : ByteArray} {nL : Nat} {ret : Option FieldType} {tb : List ExceptionTableEntry} {Q : State → Prop} {cs ss pc q : Nat} {ls : List (Option Value)} {st : List Value} {ad : Ix → Nat} {w : Wt} {x v : Int64} {y : Int32} (hk : Ok G K own cc nL ret tb) (hd : decode cc pc = .ok (.lshl, 1) ∧ pc + 1 = q) (hv : x <<< (y.toInt64 &&& 63) = v) (kk : V G K nL Q cs ss q ls (.long v :: st) ad w) : V G K nL Q cs ss pc ls (.int y :: .long x :: st) ad w := by
  obtain ⟨hd, rfl⟩ := hd
  intro H locs la h1 h2 h3
  exact lv_lshl hk.1 hk.2.1 hd hv (kk H locs la h1 h2 h3)
theorem r_i2lR {G : Gt} {K : Kt} {own : String} {cc : ByteArray} {nL : Nat} {ret : Option FieldType} {tb : List ExceptionTableEntry} {Q : State → Prop} {cs ss pc q : Nat} {ls : List (Option Value)} {st : List Value} {ad : Ix → Nat} {w : Wt} {x : Int32} {v : Int64} (hk : Ok G K own cc nL ret tb) (hd : decode cc pc = .ok (.i2l, 1) ∧ pc + 1 = q) (hv : x.toInt64 = v) (kk : V G K nL Q cs ss q ls (.long v :: st) ad w) : V G K nL Q cs ss pc ls (.int x :: st) ad w := by
  obtain ⟨hd, rfl⟩ := hd
  intro H locs la h1 h2 h3
  exact lv_i2l hk.1 hk.2.1 hd hv (kk H locs la h1 h2 h3)
theorem r_dup {G : Gt} {K : Kt} {own : String} {cc : ByteArray} {nL : Nat} {ret : Option FieldType} {tb : List ExceptionTableEntry} {Q : State → Prop} {cs ss pc q : Nat} {ls : List (Option Value)} {st : List Value} {ad : Ix → Nat} {w : Wt} {va : Value} (hk : Ok G K own cc nL ret tb) (hd : decode cc pc = .ok (.dup, 1) ∧ pc + 1 = q) (hva : va.category = 1) (kk : V G K nL Q cs ss q ls (va :: va :: st) ad w) : V G K nL Q cs ss pc ls (va :: st) ad w := by
  obtain ⟨hd, rfl⟩ := hd
  intro H locs la h1 h2 h3
  exact lv_dup hk.1 hk.2.1 hd hva (kk H locs la h1 h2 h3)
theorem r_pop {G : Gt} {K : Kt} {own : String} {cc : ByteArray} {nL : Nat} {ret : Option FieldType} {tb : List ExceptionTableEntry} {Q : State → Prop} {cs ss pc q : Nat} {ls : List (Option Value)} {st : List Value} {ad : Ix → Nat} {w : Wt} {va : Value} (hk : Ok G K own cc nL ret tb) (hd : decode cc pc = .ok (.pop, 1) ∧ pc + 1 = q) (hva : va.category = 1) (kk : V G K nL Q cs ss q ls (st) ad w) : V G K nL Q cs ss pc ls (va :: st) ad w := by
  obtain ⟨hd, rfl⟩ := hd
  intro H locs la h1 h2 h3
  exact lv_pop hk.1 hk.2.1 hd hva (kk H locs la h1 h2 h3)
theorem r_dup2 {G : Gt} {K : Kt} {own : String} {cc : ByteArray} {nL : Nat} {ret : Option FieldType} {tb : List ExceptionTableEntry} {Q : State → Prop} {cs ss pc q : Nat} {ls : List (Option Value)} {st : List Value} {ad : Ix → Nat} {w : Wt} {va vb : Value} (hk : Ok G K own cc nL ret tb) (hd : decode cc pc = .ok (.dup2, 1) ∧ pc + 1 = q) (hva : va.category = 1) (hvb : vb.category = 1) (kk : V G K nL Q cs ss q ls (va :: vb :: va :: vb :: st) ad w) : V G K nL Q cs ss pc ls (va :: vb :: st) ad w := by
  obtain ⟨hd, rfl⟩ := hd
  intro H locs la h1 h2 h3
  exact lv_dup2_11 hk.1 hk.2.1 hd hva hvb (kk H locs la h1 h2 h3)
theorem r_null {G : Gt} {K : Kt} {own : String} {cc : ByteArray} {nL : Nat} {ret : Option FieldType} {tb : List ExceptionTableEntry} {Q : State → Prop} {cs ss pc q : Nat} {ls : List (Option Value)} {st : List Value} {ad : Ix → Nat} {w : Wt} (hk : Ok G K own cc nL ret tb) (hd : decode cc pc = .ok (.aconst_null, 1) ∧ pc + 1 = q) (kk : V G K nL Q cs ss q ls (.null :: st) ad w) : V G K nL Q cs ss pc ls (st) ad w := by
  obtain ⟨hd, rfl⟩ := hd
  intro H locs la h1 h2 h3
  exact lv_null hk.1 hk.2.1 hd (kk H locs la h1 h2 h3)
theorem r_if_eq {G : Gt} {K : Kt} {own : String} {cc : ByteArray} {nL : Nat} {ret : Option FieldType} {tb : List ExceptionTableEntry} {Q : State → Prop} {cs ss pc q : Nat} {ls : List (Option Value)} {st : List Value} {ad : Ix → Nat} {w : Wt} {x off : Int} {t : Nat} (hk : Ok G K own cc nL ret tb) (hd : decode cc pc = .ok (.ifCond .eq off, 3) ∧ pc + 3 = q) (ht : (pc : Int) + off = (t : Int)) (hx : -2147483648 ≤ x ∧ x < 2147483648) (kt : x = 0 → V G K nL Q cs ss t ls st ad w) (kf : ¬ (x = 0) → V G K nL Q cs ss q ls st ad w) : V G K nL Q cs ss pc ls (.int (i32 x) :: st) ad w := by
  obtain ⟨hd, rfl⟩ := hd
  intro H locs la h1 h2 h3
  exact lv_if_eq hk.1 hk.2.1 hd ht (fun c => kt ((iz_eq hx).mp c) H locs la h1 h2 h3) (fun c => kf (fun z => c ((iz_eq hx).mpr z)) H locs la h1 h2 h3)
theorem r_icmp_eq {G : Gt} {K : Kt} {own : String} {cc : ByteArray} {nL : Nat} {ret : Option FieldType} {tb : List ExceptionTableEntry} {Q : State → Prop} {cs ss pc q : Nat} {ls : List (Option Value)} {st : List Value} {ad : Ix → Nat} {w : Wt} {x y off : Int} {t : Nat} (hk : Ok G K own cc nL ret tb) (hd : decode cc pc = .ok (.if_icmp .eq off, 3) ∧ pc + 3 = q) (ht : (pc : Int) + off = (t : Int)) (hx : -2147483648 ≤ x ∧ x < 2147483648) (hy : -2147483648 ≤ y ∧ y < 2147483648) (kt : x = y → V G K nL Q cs ss t ls st ad w) (kf : ¬ (x = y) → V G K nL Q cs ss q ls st ad w) : V G K nL Q cs ss pc ls (.int (i32 y) :: .int (i32 x) :: st) ad w := by
  obtain ⟨hd, rfl⟩ := hd
  intro H locs la h1 h2 h3
  exact lv_icmp_eq hk.1 hk.2.1 hd ht (fun c => kt ((ib_eq hx hy).mp c) H locs la h1 h2 h3) (fun c => kf (fun z => c ((ib_eq hx hy).mpr z)) H locs la h1 h2 h3)
theorem r_if_ne {G : Gt} {K : Kt} {own : String} {cc : ByteArray} {nL : Nat} {ret : Option FieldType} {tb : List ExceptionTableEntry} {Q : State → Prop} {cs ss pc q : Nat} {ls : List (Option Value)} {st : List Value} {ad : Ix → Nat} {w : Wt} {x off : Int} {t : Nat} (hk : Ok G K own cc nL ret tb) (hd : decode cc pc = .ok (.ifCond .ne off, 3) ∧ pc + 3 = q) (ht : (pc : Int) + off = (t : Int)) (hx : -2147483648 ≤ x ∧ x < 2147483648) (kt : x ≠ 0 → V G K nL Q cs ss t ls st ad w) (kf : x = 0 → V G K nL Q cs ss q ls st ad w) : V G K nL Q cs ss pc ls (.int (i32 x) :: st) ad w := by
  obtain ⟨hd, rfl⟩ := hd
  intro H locs la h1 h2 h3
  exact lv_if_ne hk.1 hk.2.1 hd ht (fun c => kt ((iz_ne hx).mp c) H locs la h1 h2 h3) (fun c => kf ((iz_eq hx).mp c) H locs la h1 h2 h3)
theorem r_icmp_ne {G : Gt} {K : Kt} {own : String} {cc : ByteArray} {nL : Nat} {ret : Option FieldType} {tb : List ExceptionTableEntry} {Q : State → Prop} {cs ss pc q : Nat} {ls : List (Option Value)} {st : List Value} {ad : Ix → Nat} {w : Wt} {x y off : Int} {t : Nat} (hk : Ok G K own cc nL ret tb) (hd : decode cc pc = .ok (.if_icmp .ne off, 3) ∧ pc + 3 = q) (ht : (pc : Int) + off = (t : Int)) (hx : -2147483648 ≤ x ∧ x < 2147483648) (hy : -2147483648 ≤ y ∧ y < 2147483648) (kt : x ≠ y → V G K nL Q cs ss t ls st ad w) (kf : x = y → V G K nL Q cs ss q ls st ad w) : V G K nL Q cs ss pc ls (.int (i32 y) :: .int (i32 x) :: st) ad w := by
  obtain ⟨hd, rfl⟩ := hd
  intro H locs la h1 h2 h3
  exact lv_icmp_ne hk.1 hk.2.1 hd ht (fun c => kt ((ib_ne hx hy).mp c) H locs la h1 h2 h3) (fun c => kf ((ib_eq hx hy).mp c) H locs la h1 h2 h3)
theorem r_if_lt {G : Gt} {K : Kt} {own : String} {cc : ByteArray} {nL : Nat} {ret : Option FieldType} {tb : List ExceptionTableEntry} {Q : State → Prop} {cs ss pc q : Nat} {ls : List (Option Value)} {st : List Value} {ad : Ix → Nat} {w : Wt} {x off : Int} {t : Nat} (hk : Ok G K own cc nL ret tb) (hd : decode cc pc = .ok (.ifCond .lt off, 3) ∧ pc + 3 = q) (ht : (pc : Int) + off = (t : Int)) (hx : -2147483648 ≤ x ∧ x < 2147483648) (kt : x < 0 → V G K nL Q cs ss t ls st ad w) (kf : ¬ (x < 0) → V G K nL Q cs ss q ls st ad w) : V G K nL Q cs ss pc ls (.int (i32 x) :: st) ad w := by
  obtain ⟨hd, rfl⟩ := hd
  intro H locs la h1 h2 h3
  exact lv_if_lt hk.1 hk.2.1 hd ht (fun c => kt ((iz_lt hx).mp c) H locs la h1 h2 h3) (fun c => kf (fun z => c ((iz_lt hx).mpr z)) H locs la h1 h2 h3)
theorem r_icmp_lt {G : Gt} {K : Kt} {own : String} {cc : ByteArray} {nL : Nat} {ret : Option FieldType} {tb : List ExceptionTableEntry} {Q : State → Prop} {cs ss pc q : Nat} {ls : List (Option Value)} {st : List Value} {ad : Ix → Nat} {w : Wt} {x y off : Int} {t : Nat} (hk : Ok G K own cc nL ret tb) (hd : decode cc pc = .ok (.if_icmp .lt off, 3) ∧ pc + 3 = q) (ht : (pc : Int) + off = (t : Int)) (hx : -2147483648 ≤ x ∧ x < 2147483648) (hy : -2147483648 ≤ y ∧ y < 2147483648) (kt : x < y → V G K nL Q cs ss t ls st ad w) (kf : ¬ (x < y) → V G K nL Q cs ss q ls st ad w) : V G K nL Q cs ss pc ls (.int (i32 y) :: .int (i32 x) :: st) ad w := by
  obtain ⟨hd, rfl⟩ := hd
  intro H locs la h1 h2 h3
  exact lv_icmp_lt hk.1 hk.2.1 hd ht (fun c => kt ((ib_lt hx hy).mp c) H locs la h1 h2 h3) (fun c => kf (fun z => c ((ib_lt hx hy).mpr z)) H locs la h1 h2 h3)
theorem r_if_ge {G : Gt} {K : Kt} {own : String} {cc : ByteArray} {nL : Nat} {ret : Option FieldType} {tb : List ExceptionTableEntry} {Q : State → Prop} {cs ss pc q : Nat} {ls : List (Option Value)} {st : List Value} {ad : Ix → Nat} {w : Wt} {x off : Int} {t : Nat} (hk : Ok G K own cc nL ret tb) (hd : decode cc pc = .ok (.ifCond .ge off, 3) ∧ pc + 3 = q) (ht : (pc : Int) + off = (t : Int)) (hx : -2147483648 ≤ x ∧ x < 2147483648) (kt : x ≥ 0 → V G K nL Q cs ss t ls st ad w) (kf : ¬ (x ≥ 0) → V G K nL Q cs ss q ls st ad w) : V G K nL Q cs ss pc ls (.int (i32 x) :: st) ad w := by
  obtain ⟨hd, rfl⟩ := hd
  intro H locs la h1 h2 h3
  exact lv_if_ge hk.1 hk.2.1 hd ht (fun c => kt ((iz_ge hx).mp c) H locs la h1 h2 h3) (fun c => kf (fun z => c ((iz_ge hx).mpr z)) H locs la h1 h2 h3)
theorem r_icmp_ge {G : Gt} {K : Kt} {own : String} {cc : ByteArray} {nL : Nat} {ret : Option FieldType} {tb : List ExceptionTableEntry} {Q : State → Prop} {cs ss pc q : Nat} {ls : List (Option Value)} {st : List Value} {ad : Ix → Nat} {w : Wt} {x y off : Int} {t : Nat} (hk : Ok G K own cc nL ret tb) (hd : decode cc pc = .ok (.if_icmp .ge off, 3) ∧ pc + 3 = q) (ht : (pc : Int) + off = (t : Int)) (hx : -2147483648 ≤ x ∧ x < 2147483648) (hy : -2147483648 ≤ y ∧ y < 2147483648) (kt : x ≥ y → V G K nL Q cs ss t ls st ad w) (kf : ¬ (x ≥ y) → V G K nL Q cs ss q ls st ad w) : V G K nL Q cs ss pc ls (.int (i32 y) :: .int (i32 x) :: st) ad w := by
  obtain ⟨hd, rfl⟩ := hd
  intro H locs la h1 h2 h3
  exact lv_icmp_ge hk.1 hk.2.1 hd ht (fun c => kt ((ib_ge hx hy).mp c) H locs la h1 h2 h3) (fun c => kf (fun z => c ((ib_ge hx hy).mpr z)) H locs la h1 h2 h3)
theorem r_if_gt {G : Gt} {K : Kt} {own : String} {cc : ByteArray} {nL : Nat} {ret : Option FieldType} {tb : List ExceptionTableEntry} {Q : State → Prop} {cs ss pc q : Nat} {ls : List (Option Value)} {st : List Value} {ad : Ix → Nat} {w : Wt} {x off : Int} {t : Nat} (hk : Ok G K own cc nL ret tb) (hd : decode cc pc = .ok (.ifCond .gt off, 3) ∧ pc + 3 = q) (ht : (pc : Int) + off = (t : Int)) (hx : -2147483648 ≤ x ∧ x < 2147483648) (kt : x > 0 → V G K nL Q cs ss t ls st ad w) (kf : ¬ (x > 0) → V G K nL Q cs ss q ls st ad w) : V G K nL Q cs ss pc ls (.int (i32 x) :: st) ad w := by
  obtain ⟨hd, rfl⟩ := hd
  intro H locs la h1 h2 h3
  exact lv_if_gt hk.1 hk.2.1 hd ht (fun c => kt ((iz_gt hx).mp c) H locs la h1 h2 h3) (fun c => kf (fun z => c ((iz_gt hx).mpr z)) H locs la h1 h2 h3)
theorem r_icmp_gt {G : Gt} {K : Kt} {own : String} {cc : ByteArray} {nL : Nat} {ret : Option FieldType} {tb : List ExceptionTableEntry} {Q : State → Prop} {cs ss pc q : Nat} {ls : List (Option Value)} {st : List Value} {ad : Ix → Nat} {w : Wt} {x y off : Int} {t : Nat} (hk : Ok G K own cc nL ret tb) (hd : decode cc pc = .ok (.if_icmp .gt off, 3) ∧ pc + 3 = q) (ht : (pc : Int) + off = (t : Int)) (hx : -2147483648 ≤ x ∧ x < 2147483648) (hy : -2147483648 ≤ y ∧ y < 2147483648) (kt : x > y → V G K nL Q cs ss t ls st ad w) (kf : ¬ (x > y) → V G K nL Q cs ss q ls st ad w) : V G K nL Q cs ss pc ls (.int (i32 y) :: .int (i32 x) :: st) ad w := by
  obtain ⟨hd, rfl⟩ := hd
  intro H locs la h1 h2 h3
  exact lv_icmp_gt hk.1 hk.2.1 hd ht (fun c => kt ((ib_gt hx hy).mp c) H locs la h1 h2 h3) (fun c => kf (fun z => c ((ib_gt hx hy).mpr z)) H locs la h1 h2 h3)
theorem r_if_le {G : Gt} {K : Kt} {own : String} {cc : ByteArray} {nL : Nat} {ret : Option FieldType} {tb : List ExceptionTableEntry} {Q : State → Prop} {cs ss pc q : Nat} {ls : List (Option Value)} {st : List Value} {ad : Ix → Nat} {w : Wt} {x off : Int} {t : Nat} (hk : Ok G K own cc nL ret tb) (hd : decode cc pc = .ok (.ifCond .le off, 3) ∧ pc + 3 = q) (ht : (pc : Int) + off = (t : Int)) (hx : -2147483648 ≤ x ∧ x < 2147483648) (kt : x ≤ 0 → V G K nL Q cs ss t ls st ad w) (kf : ¬ (x ≤ 0) → V G K nL Q cs ss q ls st ad w) : V G K nL Q cs ss pc ls (.int (i32 x) :: st) ad w := by
  obtain ⟨hd, rfl⟩ := hd
  intro H locs la h1 h2 h3
  exact lv_if_le hk.1 hk.2.1 hd ht (fun c => kt ((iz_le hx).mp c) H locs la h1 h2 h3) (fun c => kf (fun z => c ((iz_le hx).mpr z)) H locs la h1 h2 h3)
theorem r_icmp_le {G : Gt} {K : Kt} {own : String} {cc : ByteArray} {nL : Nat} {ret : Option FieldType} {tb : List ExceptionTableEntry} {Q : State → Prop} {cs ss pc q : Nat} {ls : List (Option Value)} {st : List Value} {ad : Ix → Nat} {w : Wt} {x y off : Int} {t : Nat} (hk : Ok G K own cc nL ret tb) (hd : decode cc pc = .ok (.if_icmp .le off, 3) ∧ pc + 3 = q) (ht : (pc : Int) + off = (t : Int)) (hx : -2147483648 ≤ x ∧ x < 2147483648) (hy : -2147483648 ≤ y ∧ y < 2147483648) (kt : x ≤ y → V G K nL Q cs ss t ls st ad w) (kf : ¬ (x ≤ y) → V G K nL Q cs ss q ls st ad w) : V G K nL Q cs ss pc ls (.int (i32 y) :: .int (i32 x) :: st) ad w := by
  obtain ⟨hd, rfl⟩ := hd
  intro H locs la h1 h2 h3
  exact lv_icmp_le hk.1 hk.2.1 hd ht (fun c => kt ((ib_le hx hy).mp c) H locs la h1 h2 h3) (fun c => kf (fun z => c ((ib_le hx hy).mpr z)) H locs la h1 h2 h3)
theorem r_goto {G : Gt} {K : Kt} {own : String} {cc : ByteArray} {nL : Nat} {ret : Option FieldType} {tb : List ExceptionTableEntry} {Q : State → Prop} {cs ss pc q : Nat} {ls : List (Option Value)} {st : List Value} {ad : Ix → Nat} {w : Wt} {off : Int} {t : Nat} (hk : Ok G K own cc nL ret tb) (hd : decode cc pc = .ok (.goto off, 3) ∧ pc + 3 = q) (ht : (pc : Int) + off = (t : Int)) (kk : V G K nL Q cs ss t ls st ad w) : V G K nL Q cs ss pc ls st ad w := fun H locs la h1 h2 h3 => lv_goto hk.1 hk.2.1 hd.1 ht (kk H locs la h1 h2 h3)
theorem r_lcmp {G : Gt} {K : Kt} {own : String} {cc : ByteArray} {nL : Nat} {ret : Option FieldType} {tb : List ExceptionTableEntry} {Q : State → Prop} {cs ss pc q : Nat} {ls : List (Option Value)} {st : List Value} {ad : Ix → Nat} {w : Wt} {x y : Int} (hk : Ok G K own cc nL ret tb) (hd : decode cc pc = .ok (.lcmp, 1) ∧ pc + 1 = q) (hx : -9223372036854775808 ≤ x ∧ x < 9223372036854775808) (hy : -9223372036854775808 ≤ y ∧ y < 9223372036854775808) (kk : V G K nL Q cs ss q ls (.int (i32 (icmp x y)) :: st) ad w) : V G K nL Q cs ss pc ls (.long (i64 y) :: .long (i64 x) :: st) ad w := by
  obtain ⟨hd, rfl⟩ := hd
  intro H locs la h1 h2 h3
  exact W.lcmp hk.1 hk.2.1 hd (by rw [i64_cmp hx hy]; exact kk H locs la h1 h2 h3)
theorem r_ifnonnull {G : Gt} {K : Kt} {own : String} {cc : ByteArray} {nL : Nat} {ret : Option FieldType} {tb : List ExceptionTableEntry} {Q : State → Prop} {cs ss pc q : Nat} {ls : List (Option Value)} {st : List Value} {ad : Ix → Nat} {w : Wt} {off : Int} {t a : Nat} (hk : Ok G K own cc nL ret tb) (hd : decode cc pc = .ok (.ifnonnull off, 3) ∧ pc + 3 = q) (ht : (pc : Int) + off = (t : Int)) (kk : V G K nL Q cs ss t ls st ad w) : V G K nL Q cs ss pc ls (.ref a :: st) ad w := fun H locs la h1 h2 h3 => lv_ifnonnull hk.1 hk.2.1 hd.1 ht (kk H locs la h1 h2 h3)
theorem r_ifnonnullN {G : Gt} {K : Kt} {own : String} {cc : ByteArray} {nL : Nat} {ret : Option FieldType} {tb : List ExceptionTableEntry} {Q : State → Prop} {cs ss pc q : Nat} {ls : List (Option Value)} {st : List Value} {ad : Ix → Nat} {w : Wt} {off : Int} (hk : Ok G K own cc nL ret tb) (hd : decode cc pc = .ok (.ifnonnull off, 3) ∧ pc + 3 = q) (kk : V G K nL Q cs ss q ls st ad w) : V G K nL Q cs ss pc ls (.null :: st) ad w := by
  obtain ⟨hd, rfl⟩ := hd
  exact fun H locs la h1 h2 h3 => lv_ifnonnullN hk.1 hk.2.1 hd (kk H locs la h1 h2 h3)
theorem r_ifnull {G : Gt} {K : Kt} {own : String} {cc : ByteArray} {nL : Nat} {ret : Option FieldType} {tb : List ExceptionTableEntry} {Q : State → Prop} {cs ss pc q : Nat} {ls : List (Option Value)} {st : List Value} {ad : Ix → Nat} {w : Wt} {off : Int} {a : Nat} (hk : Ok G K own cc nL ret tb) (hd : decode cc pc = .ok (.ifnull off, 3) ∧ pc + 3 = q) (kk : V G K nL Q cs ss q ls st ad w) : V G K nL Q cs ss pc ls (.ref a :: st) ad w := by
  obtain ⟨hd, rfl⟩ := hd
  exact fun H locs la h1 h2 h3 => lv_ifnull hk.1 hk.2.1 hd (kk H locs la h1 h2 h3)
theorem r_ifnullN {G : Gt} {K : Kt} {own : String} {cc : ByteArray} {nL : Nat} {ret : Option FieldType} {tb : List ExceptionTableEntry} {Q : State → Prop} {cs ss pc q : Nat} {ls : List (Option Value)} {st : List Value} {ad : Ix → Nat} {w : Wt} {off : Int} {t : Nat} (hk : Ok G K own cc nL ret tb) (hd : decode cc pc = .ok (.ifnull off, 3) ∧ pc + 3 = q) (ht : (pc : Int) + off = (t : Int)) (kk : V G K nL Q cs ss t ls st ad w) : V G K nL Q cs ss pc ls (.null :: st) ad w := fun H locs la h1 h2 h3 => lv_ifnullN hk.1 hk.2.1 hd.1 ht (kk H locs la h1 h2 h3)
theorem r_acmp_eq {G : Gt} {K : Kt} {own : String} {cc : ByteArray} {nL : Nat} {ret : Option FieldType} {tb : List ExceptionTableEntry} {Q : State → Prop} {cs ss pc q : Nat} {ls : List (Option Value)} {st : List Value} {ad : Ix → Nat} {w : Wt} {off : Int} {t a b : Nat} (hk : Ok G K own cc nL ret tb) (hd : decode cc pc = .ok (.if_acmp .eq off, 3) ∧ pc + 3 = q) (ht : (pc : Int) + off = (t : Int)) (kt : a = b → V G K nL Q cs ss t ls st ad w) (kf : ¬ (a = b) → V G K nL Q cs ss q ls st ad w) : V G K nL Q cs ss pc ls (.ref b :: .ref a :: st) ad w := by
  obtain ⟨hd, rfl⟩ := hd
  intro H locs la h1 h2 h3
  exact lv_acmp_eq (rx := some a) (ry := some b) hk.1 hk.2.1 hd ht (fun c => kt (by simpa using c) H locs la h1 h2 h3) (fun c => kf (by simpa using c) H locs la h1 h2 h3)
theorem r_acmp_ne {G : Gt} {K : Kt} {own : String} {cc : ByteArray} {nL : Nat} {ret : Option FieldType} {tb : List ExceptionTableEntry} {Q : State → Prop} {cs ss pc q : Nat} {ls : List (Option Value)} {st : List Value} {ad : Ix → Nat} {w : Wt} {off : Int} {t a b : Nat} (hk : Ok G K own cc nL ret tb) (hd : decode cc pc = .ok (.if_acmp .ne off, 3) ∧ pc + 3 = q) (ht : (pc : Int) + off = (t : Int)) (kt : a ≠ b → V G K nL Q cs ss t ls st ad w) (kf : ¬ (a ≠ b) → V G K nL Q cs ss q ls st ad w) : V G K nL Q cs ss pc ls (.ref b :: .ref a :: st) ad w := by
  obtain ⟨hd, rfl⟩ := hd
  intro H locs la h1 h2 h3
  exact lv_acmp_ne (rx := some a) (ry := some b) hk.1 hk.2.1 hd ht (fun c => kt (by simpa using c) H locs la h1 h2 h3) (fun c => kf (by simpa using c) H locs la h1 h2 h3)
theorem r_lookup {G : Gt} {K : Kt} {own : String} {cc : ByteArray} {nL : Nat} {ret : Option FieldType} {tb : List ExceptionTableEntry} {Q : State → Prop} {cs ss pc q : Nat} {ls : List (Option Value)} {st : List Value} {ad : Ix → Nat} {w : Wt} {dflt off x : Int} {ps : Array (Int × Int)} {len t : Nat} (hk : Ok G K own cc nL ret tb) (hd : decode cc pc = .ok (.lookupswitch dflt ps, len) ∧ pc + len = q) (hp : (ps.toList.zip (ps.toList.drop 1)).all (fun (a, next) => a.1 < next.1) = true) (hx : -2147483648 ≤ x ∧ x < 2147483648) (ho : Op.lookupswitch.offset ps.toList dflt x = off) (ht : (pc : Int) + off = (t : Int)) (kk : V G K nL Q cs ss t ls st ad w) : V G K nL Q cs ss pc ls (.int (i32 x) :: st) ad w := fun H locs la h1 h2 h3 => lv_lookup hk.1 hk.2.1 hd.1 hp (by rw [i32_t hx]; exact ho) ht (kk H locs la h1 h2 h3)
theorem r_tableOut {G : Gt} {K : Kt} {own : String} {cc : ByteArray} {nL : Nat} {ret : Option FieldType} {tb : List ExceptionTableEntry} {Q : State → Prop} {cs ss pc q : Nat} {ls : List (Option Value)} {st : List Value} {ad : Ix → Nat} {w : Wt} {dflt lo hi x : Int} {offs : Array Int} {len t : Nat} (hk : Ok G K own cc nL ret tb) (hd : decode cc pc = .ok (.tableswitch dflt lo hi offs, len) ∧ pc + len = q) (hx : -2147483648 ≤ x ∧ x < 2147483648) (h : x < lo ∨ hi < x) (ht : (pc : Int) + dflt = (t : Int)) (kk : V G K nL Q cs ss t ls st ad w) : V G K nL Q cs ss pc ls (.int (i32 x) :: st) ad w := fun H locs la h1 h2 h3 => lv_tableOut hk.1 hk.2.1 hd.1 (by rw [i32_t hx]; exact h) ht (kk H locs la h1 h2 h3)
theorem r_tableIn {G : Gt} {K : Kt} {own : String} {cc : ByteArray} {nL : Nat} {ret : Option FieldType} {tb : List ExceptionTableEntry} {Q : State → Prop} {cs ss pc q : Nat} {ls : List (Option Value)} {st : List Value} {ad : Ix → Nat} {w : Wt} {dflt lo hi x off : Int} {offs : Array Int} {len t : Nat} (hk : Ok G K own cc nL ret tb) (hd : decode cc pc = .ok (.tableswitch dflt lo hi offs, len) ∧ pc + len = q) (hx : -2147483648 ≤ x ∧ x < 2147483648) (h1 : lo ≤ x) (h2 : x ≤ hi) (ho : offs[(x - lo).toNat]? = some off) (ht : (pc : Int) + off = (t : Int)) (kk : V G K nL Q cs ss t ls st ad w) : V G K nL Q cs ss pc ls (.int (i32 x) :: st) ad w := fun H locs la g1 g2 g3 => lv_tableIn hk.1 hk.2.1 hd.1 (by rw [i32_t hx]; omega) (by rw [i32_t hx]; omega) (by rw [i32_t hx]; exact ho) ht (kk H locs la g1 g2 g3)
