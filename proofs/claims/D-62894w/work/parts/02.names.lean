def T_Mach : u_T := fun k => match k with
  | 0 => ("DrumMachine", "drum", "LDrumMachine$Drum;", true)
  | 1 => ("DrumMachine", "accumulator", "LDrumMachine$Accumulator;", true)
  | 2 => ("DrumMachine", "distributor", "LDrumMachine$Word;", true)
  | 3 => ("DrumMachine", "instruction", "LDrumMachine$Word;", true)
  | 4 => ("DrumMachine", "read", "LDrumMachine$Word;", true)
  | 5 => ("DrumMachine", "assembler", "LDrumMachine$Assembler;", true)
  | 6 => ("DrumMachine", "cards", "[LDrumMachine$Word;", true)
  | 7 => ("DrumMachine", "firstCard", "I", false)
  | 8 => ("DrumMachine", "cardCount", "I", false)
  | 9 => ("DrumMachine", "output", "[LDrumMachine$Word;", true)
  | 10 => ("DrumMachine", "printed", "I", false)
  | 11 => ("DrumMachine", "next", "I", false)
  | _ => ("DrumMachine", "fault", "I", false)
def y_Mach : Nat → FieldType := fun k => match k with
  | 0 => (.object "DrumMachine$Drum")
  | 1 => (.object "DrumMachine$Accumulator")
  | 2 => (.object "DrumMachine$Word")
  | 3 => (.object "DrumMachine$Word")
  | 4 => (.object "DrumMachine$Word")
  | 5 => (.object "DrumMachine$Assembler")
  | 6 => (.array (.object "DrumMachine$Word"))
  | 7 => .int
  | 8 => .int
  | 9 => (.array (.object "DrumMachine$Word"))
  | 10 => .int
  | 11 => .int
  | _ => .int
def T_Drum : u_T := fun k => match k with
  | 0 => ("DrumMachine$Drum", "codes", "[[B", true)
  | _ => ("DrumMachine$Drum", "time", "J", false)
def y_Drum : Nat → FieldType := fun k => match k with
  | 0 => (.array (.array .byte))
  | _ => .long
def T_Acc : u_T := fun k => match k with
  | 0 => ("DrumMachine$Accumulator", "digits", "[I", true)
  | 1 => ("DrumMachine$Accumulator", "minus", "Z", false)
  | 2 => ("DrumMachine$Accumulator", "overflow", "Z", false)
  | 3 => ("DrumMachine$Accumulator", "upper", "LDrumMachine$Word;", true)
  | _ => ("DrumMachine$Accumulator", "lower", "LDrumMachine$Word;", true)
def y_Acc : Nat → FieldType := fun k => match k with
  | 0 => (.array .int)
  | 1 => .boolean
  | 2 => .boolean
  | 3 => (.object "DrumMachine$Word")
  | _ => (.object "DrumMachine$Word")
def T_Word : u_T := fun k => match k with
  | 0 => ("DrumMachine$Word", "digits", "[I", true)
  | _ => ("DrumMachine$Word", "minus", "Z", false)
def y_Word : Nat → FieldType := fun k => match k with
  | 0 => (.array .int)
  | _ => .boolean
def T_Asm : u_T := fun k => match k with
  | 0 => ("DrumMachine$Assembler", "lines", "[LDrumMachine$Line;", true)
  | 1 => ("DrumMachine$Assembler", "many", "I", false)
  | 2 => ("DrumMachine$Assembler", "reserved", "[Z", true)
  | 3 => ("DrumMachine$Assembler", "given", "[Z", true)
  | 4 => ("DrumMachine$Assembler", "places", "[I", true)
  | 5 => ("DrumMachine$Assembler", "optimum", "Z", false)
  | _ => ("DrumMachine$Assembler", "full", "Z", false)
def y_Asm : Nat → FieldType := fun k => match k with
  | 0 => (.array (.object "DrumMachine$Line"))
  | 1 => .int
  | 2 => (.array .boolean)
  | 3 => (.array .boolean)
  | 4 => (.array .int)
  | 5 => .boolean
  | _ => .boolean
def T_Line : u_T := fun k => match k with
  | 0 => ("DrumMachine$Line", "location", "I", true)
  | 1 => ("DrumMachine$Line", "operation", "I", true)
  | 2 => ("DrumMachine$Line", "data", "I", true)
  | 3 => ("DrumMachine$Line", "next", "I", true)
  | 4 => ("DrumMachine$Line", "at", "I", false)
  | 5 => ("DrumMachine$Line", "toData", "I", false)
  | _ => ("DrumMachine$Line", "toNext", "I", false)
def y_Line : Nat → FieldType := fun k => match k with
  | 0 => .int
  | 1 => .int
  | 2 => .int
  | 3 => .int
  | 4 => .int
  | 5 => .int
  | _ => .int
def T_Mod : u_T := fun k => match k with
  | 0 => ("DrumMachineModel", "code", "I", false)
  | 1 => ("DrumMachineModel", "digits", "[I", true)
  | 2 => ("DrumMachineModel", "minus", "[Z", true)
  | 3 => ("DrumMachineModel", "upper", "J", false)
  | 4 => ("DrumMachineModel", "lower", "J", false)
  | 5 => ("DrumMachineModel", "distributor", "J", false)
  | 6 => ("DrumMachineModel", "negative", "Z", false)
  | 7 => ("DrumMachineModel", "negativeDistributor", "Z", false)
  | 8 => ("DrumMachineModel", "overflow", "Z", false)
  | 9 => ("DrumMachineModel", "next", "I", false)
  | 10 => ("DrumMachineModel", "fault", "I", false)
  | 11 => ("DrumMachineModel", "time", "J", false)
  | 12 => ("DrumMachineModel", "cards", "I", false)
  | 13 => ("DrumMachineModel", "card", "[J", true)
  | 14 => ("DrumMachineModel", "cardMinus", "[Z", true)
  | 15 => ("DrumMachineModel", "outputs", "I", false)
  | 16 => ("DrumMachineModel", "output", "[J", true)
  | 17 => ("DrumMachineModel", "lines", "I", false)
  | 18 => ("DrumMachineModel", "location", "[I", true)
  | 19 => ("DrumMachineModel", "operation", "[I", true)
  | 20 => ("DrumMachineModel", "data", "[I", true)
  | 21 => ("DrumMachineModel", "following", "[I", true)
  | 22 => ("DrumMachineModel", "reserved", "[Z", true)
  | 23 => ("DrumMachineModel", "places", "[I", true)
  | 24 => ("DrumMachineModel", "held", "[Z", true)
  | 25 => ("DrumMachineModel", "at", "[I", true)
  | 26 => ("DrumMachineModel", "written", "[J", true)
  | _ => ("DrumMachineModel", "full", "Z", false)
def y_Mod : Nat → FieldType := fun k => match k with
  | 0 => .int
  | 1 => (.array .int)
  | 2 => (.array .boolean)
  | 3 => .long
  | 4 => .long
  | 5 => .long
  | 6 => .boolean
  | 7 => .boolean
  | 8 => .boolean
  | 9 => .int
  | 10 => .int
  | 11 => .long
  | 12 => .int
  | 13 => (.array .long)
  | 14 => (.array .boolean)
  | 15 => .int
  | 16 => (.array .long)
  | 17 => .int
  | 18 => (.array .int)
  | 19 => (.array .int)
  | 20 => (.array .int)
  | 21 => (.array .int)
  | 22 => (.array .boolean)
  | 23 => (.array .int)
  | 24 => (.array .boolean)
  | 25 => (.array .int)
  | 26 => (.array .long)
  | _ => .boolean
abbrev cls : List vw_C := [("DrumMachine", T_Mach, 13), ("DrumMachine$Drum", T_Drum, 2), ("DrumMachine$Accumulator", T_Acc, 5), ("DrumMachine$Word", T_Word, 2), ("DrumMachine$Assembler", T_Asm, 7), ("DrumMachine$Line", T_Line, 7), ("DrumMachineModel", T_Mod, 28)]
/-- a word that stays under warmer tables, whatever the heap -/
def okW (c : Cond) : Bool := c.onTables && (c.keepsH || c.faceAtom)
def tw : List Cond := lw_tbl.filter okW
theorem tw_mem {c : Cond} (i : Nat) (h : tables_1[i]? = some c) (ho : okW c = true) : c ∈ tw := List.mem_filter.mpr ⟨List.mem_append_right _ (List.mem_of_getElem? h), ho⟩
theorem tw_sel {y : MethodName} {n : Nat} (i : Nat) (h : lw_privs[i]? = some (y, n)) : Cond.selects y.cls y y ∈ tw := List.mem_filter.mpr ⟨List.mem_append_left _ (List.mem_map.mpr ⟨(y, n), List.mem_of_getElem? h, rfl⟩), rfl⟩
theorem n_Mach : ∀ a, a < 13 → ∀ b, b < 13 → a ≠ b → (T_Mach a).2.1 ≠ (T_Mach b).2.1 := by decide +kernel
theorem y_Mach_ok : ∀ k, k < 13 → parseFieldDescriptor (T_Mach k).2.2.1 = some (y_Mach k) := by decide +kernel
theorem i_Mach : ∀ w ∈ u_ws "DrumMachine" T_Mach 13, w ∈ tw := by decide +kernel
theorem n_Drum : ∀ a, a < 2 → ∀ b, b < 2 → a ≠ b → (T_Drum a).2.1 ≠ (T_Drum b).2.1 := by decide +kernel
theorem y_Drum_ok : ∀ k, k < 2 → parseFieldDescriptor (T_Drum k).2.2.1 = some (y_Drum k) := by decide +kernel
theorem i_Drum : ∀ w ∈ u_ws "DrumMachine$Drum" T_Drum 2, w ∈ tw := by decide +kernel
theorem n_Acc : ∀ a, a < 5 → ∀ b, b < 5 → a ≠ b → (T_Acc a).2.1 ≠ (T_Acc b).2.1 := by decide +kernel
theorem y_Acc_ok : ∀ k, k < 5 → parseFieldDescriptor (T_Acc k).2.2.1 = some (y_Acc k) := by decide +kernel
theorem i_Acc : ∀ w ∈ u_ws "DrumMachine$Accumulator" T_Acc 5, w ∈ tw := by decide +kernel
theorem n_Word : ∀ a, a < 2 → ∀ b, b < 2 → a ≠ b → (T_Word a).2.1 ≠ (T_Word b).2.1 := by decide +kernel
theorem y_Word_ok : ∀ k, k < 2 → parseFieldDescriptor (T_Word k).2.2.1 = some (y_Word k) := by decide +kernel
theorem i_Word : ∀ w ∈ u_ws "DrumMachine$Word" T_Word 2, w ∈ tw := by decide +kernel
theorem n_Asm : ∀ a, a < 7 → ∀ b, b < 7 → a ≠ b → (T_Asm a).2.1 ≠ (T_Asm b).2.1 := by decide +kernel
theorem y_Asm_ok : ∀ k, k < 7 → parseFieldDescriptor (T_Asm k).2.2.1 = some (y_Asm k) := by decide +kernel
theorem i_Asm : ∀ w ∈ u_ws "DrumMachine$Assembler" T_Asm 7, w ∈ tw := by decide +kernel
theorem n_Line : ∀ a, a < 7 → ∀ b, b < 7 → a ≠ b → (T_Line a).2.1 ≠ (T_Line b).2.1 := by decide +kernel
theorem y_Line_ok : ∀ k, k < 7 → parseFieldDescriptor (T_Line k).2.2.1 = some (y_Line k) := by decide +kernel
theorem i_Line : ∀ w ∈ u_ws "DrumMachine$Line" T_Line 7, w ∈ tw := by decide +kernel
theorem n_Mod : ∀ a, a < 28 → ∀ b, b < 28 → a ≠ b → (T_Mod a).2.1 ≠ (T_Mod b).2.1 := by decide +kernel
theorem y_Mod_ok : ∀ k, k < 28 → parseFieldDescriptor (T_Mod k).2.2.1 = some (y_Mod k) := by decide +kernel
theorem i_Mod : ∀ w ∈ u_ws "DrumMachineModel" T_Mod 28, w ∈ tw := by decide +kernel
