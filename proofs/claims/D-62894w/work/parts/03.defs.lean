/-! definitions that the words need -/
def i32 (z : Int) : Int32 := Int32.ofInt z
def i64 (z : Int) : Int64 := Int64.ofInt z
/-- the entry idx of own's file names the field k of the class ci -/
def Fl (own : String) (idx ci k : Nat) : Prop := ∃ r : vw_C, cls[ci]? = some r ∧ k < r.2.2 ∧ Cond.fieldLink own idx (r.2.1 k).1 (r.2.1 k).2.1 (r.2.1 k).2.2.1 ∈ tw
def FlN (own : String) (idx ci k : Nat) : Prop := ∃ (r : vw_C) (host : String), cls[ci]? = some r ∧ k < r.2.2 ∧ Cond.fieldLinkNest own idx (r.2.1 k).1 (r.2.1 k).2.1 (r.2.1 k).2.2.1 host ∈ tw
/-- the field k of the class ci is of type ty, final or not -/
def Ft (ci k : Nat) (ty : FieldType) (fin : Bool) : Prop := ∃ r : vw_C, cls[ci]? = some r ∧ k < r.2.2 ∧ parseFieldDescriptor (r.2.1 k).2.2.1 = some ty ∧ (r.2.1 k).2.2.2 = fin ∧ (r.2.1 k).1 = r.1
/-- the words that a call of y needs; how it is called: 0 invokestatic, 1 invokevirtual, 2 invokespecial of a constructor -/
def Mi (y : MethodName) (cw : Cond) (maxL nA : Nat) : Prop := cw ∈ tw ∧ Cond.initialized y.cls ∈ tw ∧ (y.cls ≠ "java/lang/invoke/MethodHandle" ∧ y.cls ≠ "java/lang/invoke/VarHandle") ∧ (parseMethodDescriptor y.desc).map (fun d => d.parameters.length) = some nA ∧
  ∃ (cc : ByteArray) (ret : Option FieldType), cw = Cond.code y cc maxL ret ∨ ∃ hh, cw = Cond.codeWith y cc maxL ret hh
abbrev Lk (own : String) (idx : Nat) (y : MethodName) : Prop := Cond.methodLink own idx y ∈ tw ∨ ∃ host, Cond.methodLinkNest own idx y host ∈ tw
abbrev Iv (y : MethodName) : Prop := Cond.instanceMethod y ∈ tw ∧ Cond.selects y.cls y y ∈ tw
/-- decoded instructions of a method: pc, instruction, length, next pc -/
def dk (b : ByteArray) (l : List (Nat × Instr × Nat × Nat)) : Bool := l.all fun x => decide (decode b x.1 = .ok (x.2.1, x.2.2.1)) && Nat.beq (x.1 + x.2.2.1) x.2.2.2
theorem dk_at {b : ByteArray} {l : List (Nat × Instr × Nat × Nat)} (h : dk b l = true) (k : Nat) {pc n q : Nat} {i : Instr} (hk : l[k]? = some (pc, i, n, q)) : decode b pc = .ok (i, n) ∧ pc + n = q := by
  have h1 := List.all_eq_true.mp h _ (List.mem_of_getElem? hk)
  simp only [Bool.and_eq_true, decide_eq_true_eq, Nat.beq_eq] at h1
  exact h1
def thS : List Cond := [.laysStatic "java/lang/Throwable" "UNASSIGNED_STACK" "[Ljava/lang/StackTraceElement;", .laysStatic "java/lang/Throwable" "SUPPRESSED_SENTINEL" "Ljava/util/List;"]
def exN : List String := ["java/lang/RuntimeException", "java/lang/Exception"]
def thA : List Cond := thS ++ [.isRef (.static "java/lang/Throwable" "UNASSIGNED_STACK" "[Ljava/lang/StackTraceElement;"), .isRef (.static "java/lang/Throwable" "SUPPRESSED_SENTINEL" "Ljava/util/List;")]
def Ex (idn ic : Nat) (C : String) : Prop := Cond.classLink "DrumMachine" idn C ∈ tw ∧ Cond.instantiable C 6 ∈ tw ∧ Cond.initialized C ∈ tw ∧ Bundle.fit C = true ∧ ∀ a ∈ Bundle.ownAtoms0 "DrumMachine" ic C exN, a ∈ tw ∨ a ∈ thA
