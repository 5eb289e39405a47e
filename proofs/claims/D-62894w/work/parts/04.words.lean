def y_Mach_init : MethodName := ⟨"DrumMachine", "<init>", "()V"⟩
abbrev b_Mach_init : ByteArray := prog_1_method_5_code
abbrev w_Mach_init : Cond := .code y_Mach_init b_Mach_init 2 none
set_option maxRecDepth 100000 in
theorem m_Mach_init : Mi y_Mach_init w_Mach_init 2 0 := ⟨tw_mem 21 rfl rfl, tw_mem 1 (by decide +kernel) rfl, by decide, by decide +kernel, _, _, Or.inl rfl⟩
theorem s_Mach_init : Cond.instanceMethod y_Mach_init ∈ tw ∧ y_Mach_init.name = "<init>" := ⟨tw_mem 20 (by decide +kernel) rfl, rfl⟩
def y_Drum_init : MethodName := ⟨"DrumMachine$Drum", "<init>", "()V"⟩
abbrev b_Drum_init : ByteArray := prog_4_method_1_code
abbrev w_Drum_init : Cond := .code y_Drum_init b_Drum_init 3 none
set_option maxRecDepth 100000 in
theorem m_Drum_init : Mi y_Drum_init w_Drum_init 3 0 := ⟨tw_mem 29 rfl rfl, tw_mem 2 (by decide +kernel) rfl, by decide, by decide +kernel, _, _, Or.inl rfl⟩
theorem s_Drum_init : Cond.instanceMethod y_Drum_init ∈ tw ∧ y_Drum_init.name = "<init>" := ⟨tw_mem 28 (by decide +kernel) rfl, rfl⟩
def y_Drum_code : MethodName := ⟨"DrumMachine$Drum", "code", "(I)B"⟩
abbrev b_Drum_code : ByteArray := prog_4_method_2_code
abbrev w_Drum_code : Cond := .code y_Drum_code b_Drum_code 1 (some .byte)
set_option maxRecDepth 100000 in
theorem m_Drum_code : Mi y_Drum_code w_Drum_code 1 1 := ⟨tw_mem 35 rfl rfl, tw_mem 2 (by decide +kernel) rfl, by decide, by decide +kernel, _, _, Or.inl rfl⟩
theorem s_Drum_code : Cond.static y_Drum_code ∈ tw := tw_mem 34 (by decide +kernel) rfl
def y_Acc_init : MethodName := ⟨"DrumMachine$Accumulator", "<init>", "()V"⟩
abbrev b_Acc_init : ByteArray := prog_2_method_1_code
abbrev w_Acc_init : Cond := .code y_Acc_init b_Acc_init 1 none
set_option maxRecDepth 100000 in
theorem m_Acc_init : Mi y_Acc_init w_Acc_init 1 0 := ⟨tw_mem 50 rfl rfl, tw_mem 3 (by decide +kernel) rfl, by decide, by decide +kernel, _, _, Or.inl rfl⟩
theorem s_Acc_init : Cond.instanceMethod y_Acc_init ∈ tw ∧ y_Acc_init.name = "<init>" := ⟨tw_mem 49 (by decide +kernel) rfl, rfl⟩
def y_Word_init : MethodName := ⟨"DrumMachine$Word", "<init>", "()V"⟩
abbrev b_Word_init : ByteArray := prog_7_method_1_code
abbrev w_Word_init : Cond := .code y_Word_init b_Word_init 1 none
set_option maxRecDepth 100000 in
theorem m_Word_init : Mi y_Word_init w_Word_init 1 0 := ⟨tw_mem 56 rfl rfl, tw_mem 4 (by decide +kernel) rfl, by decide, by decide +kernel, _, _, Or.inl rfl⟩
theorem s_Word_init : Cond.instanceMethod y_Word_init ∈ tw ∧ y_Word_init.name = "<init>" := ⟨tw_mem 55 (by decide +kernel) rfl, rfl⟩
def y_Asm_init : MethodName := ⟨"DrumMachine$Assembler", "<init>", "()V"⟩
abbrev b_Asm_init : ByteArray := prog_3_method_1_code
abbrev w_Asm_init : Cond := .code y_Asm_init b_Asm_init 1 none
set_option maxRecDepth 100000 in
theorem m_Asm_init : Mi y_Asm_init w_Asm_init 1 0 := ⟨tw_mem 97 rfl rfl, tw_mem 5 (by decide +kernel) rfl, by decide, by decide +kernel, _, _, Or.inl rfl⟩
theorem s_Asm_init : Cond.instanceMethod y_Asm_init ∈ tw ∧ y_Asm_init.name = "<init>" := ⟨tw_mem 96 (by decide +kernel) rfl, rfl⟩
def y_Asm_forget : MethodName := ⟨"DrumMachine$Assembler", "forget", "()V"⟩
abbrev b_Asm_forget : ByteArray := prog_3_method_2_code
abbrev w_Asm_forget : Cond := .code y_Asm_forget b_Asm_forget 2 none
set_option maxRecDepth 100000 in
theorem m_Asm_forget : Mi y_Asm_forget w_Asm_forget 2 0 := ⟨tw_mem 104 rfl rfl, tw_mem 5 (by decide +kernel) rfl, by decide, by decide +kernel, _, _, Or.inl rfl⟩
theorem s_Asm_forget : Iv y_Asm_forget := ⟨tw_mem 103 (by decide +kernel) rfl, tw_sel (n := 7) 0 (by decide +kernel)⟩
def y_Mach_fault : MethodName := ⟨"DrumMachine", "fault", "()I"⟩
abbrev b_Mach_fault : ByteArray := prog_1_method_19_code
abbrev w_Mach_fault : Cond := .code y_Mach_fault b_Mach_fault 1 (some .int)
set_option maxRecDepth 100000 in
theorem m_Mach_fault : Mi y_Mach_fault w_Mach_fault 1 0 := ⟨tw_mem 176 rfl rfl, tw_mem 1 (by decide +kernel) rfl, by decide, by decide +kernel, _, _, Or.inl rfl⟩
theorem s_Mach_fault : Iv y_Mach_fault := ⟨tw_mem 174 (by decide +kernel) rfl, tw_mem 175 (by decide +kernel) rfl⟩
def y_Mach_clear : MethodName := ⟨"DrumMachine", "clear", "()V"⟩
abbrev b_Mach_clear : ByteArray := prog_1_method_26_code
abbrev w_Mach_clear : Cond := .code y_Mach_clear b_Mach_clear 2 none
set_option maxRecDepth 100000 in
theorem m_Mach_clear : Mi y_Mach_clear w_Mach_clear 2 0 := ⟨tw_mem 180 rfl rfl, tw_mem 1 (by decide +kernel) rfl, by decide, by decide +kernel, _, _, Or.inl rfl⟩
theorem s_Mach_clear : Iv y_Mach_clear := ⟨tw_mem 178 (by decide +kernel) rfl, tw_mem 179 (by decide +kernel) rfl⟩
def y_Mach_time : MethodName := ⟨"DrumMachine", "time", "()J"⟩
abbrev b_Mach_time : ByteArray := prog_1_method_29_code
abbrev w_Mach_time : Cond := .code y_Mach_time b_Mach_time 1 (some .long)
set_option maxRecDepth 100000 in
theorem m_Mach_time : Mi y_Mach_time w_Mach_time 1 0 := ⟨tw_mem 185 rfl rfl, tw_mem 1 (by decide +kernel) rfl, by decide, by decide +kernel, _, _, Or.inl rfl⟩
theorem s_Mach_time : Iv y_Mach_time := ⟨tw_mem 183 (by decide +kernel) rfl, tw_mem 184 (by decide +kernel) rfl⟩
def y_Mach_next : MethodName := ⟨"DrumMachine", "next", "()I"⟩
abbrev b_Mach_next : ByteArray := prog_1_method_32_code
abbrev w_Mach_next : Cond := .code y_Mach_next b_Mach_next 1 (some .int)
set_option maxRecDepth 100000 in
theorem m_Mach_next : Mi y_Mach_next w_Mach_next 1 0 := ⟨tw_mem 189 rfl rfl, tw_mem 1 (by decide +kernel) rfl, by decide, by decide +kernel, _, _, Or.inl rfl⟩
theorem s_Mach_next : Iv y_Mach_next := ⟨tw_mem 187 (by decide +kernel) rfl, tw_mem 188 (by decide +kernel) rfl⟩
def y_Mach_outputs : MethodName := ⟨"DrumMachine", "outputs", "()I"⟩
abbrev b_Mach_outputs : ByteArray := prog_1_method_35_code
abbrev w_Mach_outputs : Cond := .code y_Mach_outputs b_Mach_outputs 1 (some .int)
set_option maxRecDepth 100000 in
theorem m_Mach_outputs : Mi y_Mach_outputs w_Mach_outputs 1 0 := ⟨tw_mem 193 rfl rfl, tw_mem 1 (by decide +kernel) rfl, by decide, by decide +kernel, _, _, Or.inl rfl⟩
theorem s_Mach_outputs : Iv y_Mach_outputs := ⟨tw_mem 191 (by decide +kernel) rfl, tw_mem 192 (by decide +kernel) rfl⟩
def y_Law_word : MethodName := ⟨"DrumMachineLaw", "word", "(LDrumMachine;IJZ)I"⟩
abbrev b_Law_word : ByteArray := method_3_code
abbrev w_Law_word : Cond := .codeWith y_Law_word b_Law_word 6 (some .int) [(0, 8, 11, 13), (0, 8, 15, 15)]
set_option maxRecDepth 100000 in
theorem m_Law_word : Mi y_Law_word w_Law_word 6 4 := ⟨tw_mem 196 rfl rfl, tw_mem 0 (by decide +kernel) rfl, by decide, by decide +kernel, _, _, Or.inr ⟨_, rfl⟩⟩
theorem s_Law_word : Cond.static y_Law_word ∈ tw := tw_mem 195 (by decide +kernel) rfl
def y_Mach_word : MethodName := ⟨"DrumMachine", "word", "(IJZ)V"⟩
abbrev b_Mach_word : ByteArray := prog_1_method_20_code
abbrev w_Mach_word : Cond := .code y_Mach_word b_Mach_word 5 none
set_option maxRecDepth 100000 in
theorem m_Mach_word : Mi y_Mach_word w_Mach_word 5 3 := ⟨tw_mem 202 rfl rfl, tw_mem 1 (by decide +kernel) rfl, by decide, by decide +kernel, _, _, Or.inl rfl⟩
theorem s_Mach_word : Iv y_Mach_word := ⟨tw_mem 200 (by decide +kernel) rfl, tw_mem 201 (by decide +kernel) rfl⟩
def y_Mach_isAddress : MethodName := ⟨"DrumMachine", "isAddress", "(I)Z"⟩
abbrev b_Mach_isAddress : ByteArray := prog_1_method_8_code
abbrev w_Mach_isAddress : Cond := .code y_Mach_isAddress b_Mach_isAddress 1 (some .boolean)
set_option maxRecDepth 100000 in
theorem m_Mach_isAddress : Mi y_Mach_isAddress w_Mach_isAddress 1 1 := ⟨tw_mem 205 rfl rfl, tw_mem 1 (by decide +kernel) rfl, by decide, by decide +kernel, _, _, Or.inl rfl⟩
theorem s_Mach_isAddress : Cond.static y_Mach_isAddress ∈ tw := tw_mem 204 (by decide +kernel) rfl
def y_Mach_mustBe : MethodName := ⟨"DrumMachine", "mustBe", "(Z)V"⟩
abbrev b_Mach_mustBe : ByteArray := prog_1_method_6_code
abbrev w_Mach_mustBe : Cond := .code y_Mach_mustBe b_Mach_mustBe 1 none
set_option maxRecDepth 100000 in
theorem m_Mach_mustBe : Mi y_Mach_mustBe w_Mach_mustBe 1 1 := ⟨tw_mem 208 rfl rfl, tw_mem 1 (by decide +kernel) rfl, by decide, by decide +kernel, _, _, Or.inl rfl⟩
theorem s_Mach_mustBe : Cond.static y_Mach_mustBe ∈ tw := tw_mem 207 (by decide +kernel) rfl
def y_Mach_need : MethodName := ⟨"DrumMachine", "need", "(Z)V"⟩
abbrev b_Mach_need : ByteArray := prog_1_method_7_code
abbrev w_Mach_need : Cond := .code y_Mach_need b_Mach_need 1 none
set_option maxRecDepth 100000 in
theorem m_Mach_need : Mi y_Mach_need w_Mach_need 1 1 := ⟨tw_mem 276 rfl rfl, tw_mem 1 (by decide +kernel) rfl, by decide, by decide +kernel, _, _, Or.inl rfl⟩
theorem s_Mach_need : Cond.static y_Mach_need ∈ tw := tw_mem 275 (by decide +kernel) rfl
def y_Word_set : MethodName := ⟨"DrumMachine$Word", "set", "(JZ)V"⟩
abbrev b_Word_set : ByteArray := prog_7_method_2_code
abbrev w_Word_set : Cond := .code y_Word_set b_Word_set 7 none
set_option maxRecDepth 100000 in
theorem m_Word_set : Mi y_Word_set w_Word_set 7 2 := ⟨tw_mem 295 rfl rfl, tw_mem 4 (by decide +kernel) rfl, by decide, by decide +kernel, _, _, Or.inl rfl⟩
theorem s_Word_set : Iv y_Word_set := ⟨tw_mem 294 (by decide +kernel) rfl, tw_sel (n := 2) 2 (by decide +kernel)⟩
def y_Drum_put : MethodName := ⟨"DrumMachine$Drum", "put", "(ILDrumMachine$Word;)V"⟩
abbrev b_Drum_put : ByteArray := prog_4_method_6_code
abbrev w_Drum_put : Cond := .code y_Drum_put b_Drum_put 4 none
set_option maxRecDepth 100000 in
theorem m_Drum_put : Mi y_Drum_put w_Drum_put 4 2 := ⟨tw_mem 300 rfl rfl, tw_mem 2 (by decide +kernel) rfl, by decide, by decide +kernel, _, _, Or.inl rfl⟩
theorem s_Drum_put : Iv y_Drum_put := ⟨tw_mem 299 (by decide +kernel) rfl, tw_sel (n := 2) 3 (by decide +kernel)⟩
def y_Law_flip : MethodName := ⟨"DrumMachineLaw", "flip", "(LDrumMachine;III[J)I"⟩
abbrev b_Law_flip : ByteArray := method_4_code
abbrev w_Law_flip : Cond := .codeWith y_Law_flip b_Law_flip 6 (some .int) [(0, 19, 22, 13)]
set_option maxRecDepth 100000 in
theorem m_Law_flip : Mi y_Law_flip w_Law_flip 6 5 := ⟨tw_mem 303 rfl rfl, tw_mem 0 (by decide +kernel) rfl, by decide, by decide +kernel, _, _, Or.inr ⟨_, rfl⟩⟩
theorem s_Law_flip : Cond.static y_Law_flip ∈ tw := tw_mem 302 (by decide +kernel) rfl
def y_Mach_flip : MethodName := ⟨"DrumMachine", "flip", "(III)Z"⟩
abbrev b_Mach_flip : ByteArray := prog_1_method_21_code
abbrev w_Mach_flip : Cond := .code y_Mach_flip b_Mach_flip 4 (some .boolean)
set_option maxRecDepth 100000 in
theorem m_Mach_flip : Mi y_Mach_flip w_Mach_flip 4 3 := ⟨tw_mem 307 rfl rfl, tw_mem 1 (by decide +kernel) rfl, by decide, by decide +kernel, _, _, Or.inl rfl⟩
theorem s_Mach_flip : Iv y_Mach_flip := ⟨tw_mem 305 (by decide +kernel) rfl, tw_mem 306 (by decide +kernel) rfl⟩
def y_Drum_isValid : MethodName := ⟨"DrumMachine$Drum", "isValid", "(I)Z"⟩
abbrev b_Drum_isValid : ByteArray := prog_4_method_4_code
abbrev w_Drum_isValid : Cond := .code y_Drum_isValid b_Drum_isValid 3 (some .boolean)
set_option maxRecDepth 100000 in
theorem m_Drum_isValid : Mi y_Drum_isValid w_Drum_isValid 3 1 := ⟨tw_mem 311 rfl rfl, tw_mem 2 (by decide +kernel) rfl, by decide, by decide +kernel, _, _, Or.inl rfl⟩
theorem s_Drum_isValid : Iv y_Drum_isValid := ⟨tw_mem 310 (by decide +kernel) rfl, tw_sel (n := 2) 4 (by decide +kernel)⟩
def y_Drum_digit : MethodName := ⟨"DrumMachine$Drum", "digit", "(I)I"⟩
abbrev b_Drum_digit : ByteArray := prog_4_method_3_code
abbrev w_Drum_digit : Cond := .code y_Drum_digit b_Drum_digit 3 (some .int)
set_option maxRecDepth 100000 in
theorem m_Drum_digit : Mi y_Drum_digit w_Drum_digit 3 1 := ⟨tw_mem 314 rfl rfl, tw_mem 2 (by decide +kernel) rfl, by decide, by decide +kernel, _, _, Or.inl rfl⟩
theorem s_Drum_digit : Cond.static y_Drum_digit ∈ tw := tw_mem 313 (by decide +kernel) rfl
def y_Law_card : MethodName := ⟨"DrumMachineLaw", "card", "(LDrumMachine;JZ[J)I"⟩
abbrev b_Law_card : ByteArray := method_5_code
abbrev w_Law_card : Cond := .codeWith y_Law_card b_Law_card 6 (some .int) [(0, 11, 14, 15), (0, 11, 18, 25)]
set_option maxRecDepth 100000 in
theorem m_Law_card : Mi y_Law_card w_Law_card 6 4 := ⟨tw_mem 317 rfl rfl, tw_mem 0 (by decide +kernel) rfl, by decide, by decide +kernel, _, _, Or.inr ⟨_, rfl⟩⟩
theorem s_Law_card : Cond.static y_Law_card ∈ tw := tw_mem 316 (by decide +kernel) rfl
def y_Mach_card : MethodName := ⟨"DrumMachine", "card", "(JZ)I"⟩
abbrev b_Mach_card : ByteArray := prog_1_method_22_code
abbrev w_Mach_card : Cond := .code y_Mach_card b_Mach_card 4 (some .int)
set_option maxRecDepth 100000 in
theorem m_Mach_card : Mi y_Mach_card w_Mach_card 4 2 := ⟨tw_mem 322 rfl rfl, tw_mem 1 (by decide +kernel) rfl, by decide, by decide +kernel, _, _, Or.inl rfl⟩
theorem s_Mach_card : Iv y_Mach_card := ⟨tw_mem 320 (by decide +kernel) rfl, tw_mem 321 (by decide +kernel) rfl⟩
def y_Law_line : MethodName := ⟨"DrumMachineLaw", "line", "(LDrumMachine;IIII[J)I"⟩
abbrev b_Law_line : ByteArray := method_6_code
abbrev w_Law_line : Cond := .codeWith y_Law_line b_Law_line 7 (some .int) [(0, 14, 17, 15), (0, 14, 21, 25)]
set_option maxRecDepth 100000 in
theorem m_Law_line : Mi y_Law_line w_Law_line 7 6 := ⟨tw_mem 340 rfl rfl, tw_mem 0 (by decide +kernel) rfl, by decide, by decide +kernel, _, _, Or.inr ⟨_, rfl⟩⟩
theorem s_Law_line : Cond.static y_Law_line ∈ tw := tw_mem 339 (by decide +kernel) rfl
def y_Mach_line : MethodName := ⟨"DrumMachine", "line", "(IIII)I"⟩
abbrev b_Mach_line : ByteArray := prog_1_method_24_code
abbrev w_Mach_line : Cond := .code y_Mach_line b_Mach_line 6 (some .int)
set_option maxRecDepth 100000 in
theorem m_Mach_line : Mi y_Mach_line w_Mach_line 6 4 := ⟨tw_mem 344 rfl rfl, tw_mem 1 (by decide +kernel) rfl, by decide, by decide +kernel, _, _, Or.inl rfl⟩
theorem s_Mach_line : Iv y_Mach_line := ⟨tw_mem 342 (by decide +kernel) rfl, tw_mem 343 (by decide +kernel) rfl⟩
def y_Mach_kind : MethodName := ⟨"DrumMachine", "kind", "(I)LDrumMachine$Kind;"⟩
abbrev b_Mach_kind : ByteArray := prog_1_method_1_code
abbrev w_Mach_kind : Cond := .code y_Mach_kind b_Mach_kind 1 (some (.object "DrumMachine$Kind"))
set_option maxRecDepth 100000 in
theorem m_Mach_kind : Mi y_Mach_kind w_Mach_kind 1 1 := ⟨tw_mem 347 rfl rfl, tw_mem 1 (by decide +kernel) rfl, by decide, by decide +kernel, _, _, Or.inl rfl⟩
theorem s_Mach_kind : Cond.static y_Mach_kind ∈ tw := tw_mem 346 (by decide +kernel) rfl
def y_Mach_isPart : MethodName := ⟨"DrumMachine", "isPart", "(I)Z"⟩
abbrev b_Mach_isPart : ByteArray := prog_1_method_23_code
abbrev w_Mach_isPart : Cond := .code y_Mach_isPart b_Mach_isPart 1 (some .boolean)
set_option maxRecDepth 100000 in
theorem m_Mach_isPart : Mi y_Mach_isPart w_Mach_isPart 1 1 := ⟨tw_mem 376 rfl rfl, tw_mem 1 (by decide +kernel) rfl, by decide, by decide +kernel, _, _, Or.inl rfl⟩
theorem s_Mach_isPart : Cond.static y_Mach_isPart ∈ tw := tw_mem 375 (by decide +kernel) rfl
def y_Line_init : MethodName := ⟨"DrumMachine$Line", "<init>", "(IIII)V"⟩
abbrev b_Line_init : ByteArray := prog_6_method_1_code
abbrev w_Line_init : Cond := .code y_Line_init b_Line_init 5 none
set_option maxRecDepth 100000 in
theorem m_Line_init : Mi y_Line_init w_Line_init 5 4 := ⟨tw_mem 381 rfl rfl, tw_mem 15 (by decide +kernel) rfl, by decide, by decide +kernel, _, _, Or.inl rfl⟩
theorem s_Line_init : Cond.instanceMethod y_Line_init ∈ tw ∧ y_Line_init.name = "<init>" := ⟨tw_mem 380 (by decide +kernel) rfl, rfl⟩
def y_Law_reserve : MethodName := ⟨"DrumMachineLaw", "reserve", "(LDrumMachine;I)I"⟩
abbrev b_Law_reserve : ByteArray := method_7_code
abbrev w_Law_reserve : Cond := .codeWith y_Law_reserve b_Law_reserve 3 (some .int) [(0, 5, 8, 13)]
set_option maxRecDepth 100000 in
theorem m_Law_reserve : Mi y_Law_reserve w_Law_reserve 3 2 := ⟨tw_mem 415 rfl rfl, tw_mem 0 (by decide +kernel) rfl, by decide, by decide +kernel, _, _, Or.inr ⟨_, rfl⟩⟩
theorem s_Law_reserve : Cond.static y_Law_reserve ∈ tw := tw_mem 414 (by decide +kernel) rfl
def y_Mach_reserve : MethodName := ⟨"DrumMachine", "reserve", "(I)V"⟩
abbrev b_Mach_reserve : ByteArray := prog_1_method_25_code
abbrev w_Mach_reserve : Cond := .code y_Mach_reserve b_Mach_reserve 2 none
set_option maxRecDepth 100000 in
theorem m_Mach_reserve : Mi y_Mach_reserve w_Mach_reserve 2 1 := ⟨tw_mem 419 rfl rfl, tw_mem 1 (by decide +kernel) rfl, by decide, by decide +kernel, _, _, Or.inl rfl⟩
theorem s_Mach_reserve : Iv y_Mach_reserve := ⟨tw_mem 417 (by decide +kernel) rfl, tw_mem 418 (by decide +kernel) rfl⟩
def y_Law_assemble : MethodName := ⟨"DrumMachineLaw", "assemble", "(LDrumMachine;Z[J)I"⟩
abbrev b_Law_assemble : ByteArray := method_8_code
abbrev w_Law_assemble : Cond := .codeWith y_Law_assemble b_Law_assemble 4 (some .int) [(0, 9, 12, 25), (0, 9, 15, 39)]
set_option maxRecDepth 100000 in
theorem m_Law_assemble : Mi y_Law_assemble w_Law_assemble 4 3 := ⟨tw_mem 422 rfl rfl, tw_mem 0 (by decide +kernel) rfl, by decide, by decide +kernel, _, _, Or.inr ⟨_, rfl⟩⟩
theorem s_Law_assemble : Cond.static y_Law_assemble ∈ tw := tw_mem 421 (by decide +kernel) rfl
def y_Mach_assemble : MethodName := ⟨"DrumMachine", "assemble", "(Z)I"⟩
abbrev b_Mach_assemble : ByteArray := prog_1_method_27_code
abbrev w_Mach_assemble : Cond := .code y_Mach_assemble b_Mach_assemble 4 (some .int)
set_option maxRecDepth 100000 in
theorem m_Mach_assemble : Mi y_Mach_assemble w_Mach_assemble 4 1 := ⟨tw_mem 427 rfl rfl, tw_mem 1 (by decide +kernel) rfl, by decide, by decide +kernel, _, _, Or.inl rfl⟩
theorem s_Mach_assemble : Iv y_Mach_assemble := ⟨tw_mem 425 (by decide +kernel) rfl, tw_mem 426 (by decide +kernel) rfl⟩
def y_Asm_gives : MethodName := ⟨"DrumMachine$Assembler", "gives", "(Z)Z"⟩
abbrev b_Asm_gives : ByteArray := prog_3_method_9_code
abbrev w_Asm_gives : Cond := .code y_Asm_gives b_Asm_gives 4 (some .boolean)
set_option maxRecDepth 100000 in
theorem m_Asm_gives : Mi y_Asm_gives w_Asm_gives 4 1 := ⟨tw_mem 431 rfl rfl, tw_mem 5 (by decide +kernel) rfl, by decide, by decide +kernel, _, _, Or.inl rfl⟩
theorem s_Asm_gives : Iv y_Asm_gives := ⟨tw_mem 430 (by decide +kernel) rfl, tw_sel (n := 7) 5 (by decide +kernel)⟩
def y_Asm_begin : MethodName := ⟨"DrumMachine$Assembler", "begin", "(Z)V"⟩
abbrev b_Asm_begin : ByteArray := prog_3_method_4_code
abbrev w_Asm_begin : Cond := .code y_Asm_begin b_Asm_begin 3 none
set_option maxRecDepth 100000 in
theorem m_Asm_begin : Mi y_Asm_begin w_Asm_begin 3 1 := ⟨tw_mem 435 rfl rfl, tw_mem 5 (by decide +kernel) rfl, by decide, by decide +kernel, _, _, Or.inl rfl⟩
theorem s_Asm_begin : Iv y_Asm_begin := ⟨tw_mem 434 (by decide +kernel) rfl, tw_sel (n := 7) 6 (by decide +kernel)⟩
def y_Asm_mark : MethodName := ⟨"DrumMachine$Assembler", "mark", "(I)V"⟩
abbrev b_Asm_mark : ByteArray := prog_3_method_3_code
abbrev w_Asm_mark : Cond := .code y_Asm_mark b_Asm_mark 2 none
set_option maxRecDepth 100000 in
theorem m_Asm_mark : Mi y_Asm_mark w_Asm_mark 2 1 := ⟨tw_mem 439 rfl rfl, tw_mem 5 (by decide +kernel) rfl, by decide, by decide +kernel, _, _, Or.inl rfl⟩
theorem s_Asm_mark : Iv y_Asm_mark := ⟨tw_mem 438 (by decide +kernel) rfl, tw_sel (n := 7) 7 (by decide +kernel)⟩
def y_Line_shifts : MethodName := ⟨"DrumMachine$Line", "shifts", "()Z"⟩
abbrev b_Line_shifts : ByteArray := prog_6_method_2_code
abbrev w_Line_shifts : Cond := .code y_Line_shifts b_Line_shifts 1 (some .boolean)
set_option maxRecDepth 100000 in
theorem m_Line_shifts : Mi y_Line_shifts w_Line_shifts 1 0 := ⟨tw_mem 443 rfl rfl, tw_mem 15 (by decide +kernel) rfl, by decide, by decide +kernel, _, _, Or.inl rfl⟩
theorem s_Line_shifts : Iv y_Line_shifts := ⟨tw_mem 442 (by decide +kernel) rfl, tw_sel (n := 7) 8 (by decide +kernel)⟩
def y_Asm_locate : MethodName := ⟨"DrumMachine$Assembler", "locate", "(I)V"⟩
abbrev b_Asm_locate : ByteArray := prog_3_method_7_code
abbrev w_Asm_locate : Cond := .code y_Asm_locate b_Asm_locate 4 none
set_option maxRecDepth 100000 in
theorem m_Asm_locate : Mi y_Asm_locate w_Asm_locate 4 1 := ⟨tw_mem 449 rfl rfl, tw_mem 5 (by decide +kernel) rfl, by decide, by decide +kernel, _, _, Or.inl rfl⟩
theorem s_Asm_locate : Iv y_Asm_locate := ⟨tw_mem 448 (by decide +kernel) rfl, tw_sel (n := 7) 9 (by decide +kernel)⟩
def y_Asm_settle : MethodName := ⟨"DrumMachine$Assembler", "settle", "(II)I"⟩
abbrev b_Asm_settle : ByteArray := prog_3_method_6_code
abbrev w_Asm_settle : Cond := .code y_Asm_settle b_Asm_settle 4 (some .int)
set_option maxRecDepth 100000 in
theorem m_Asm_settle : Mi y_Asm_settle w_Asm_settle 4 2 := ⟨tw_mem 453 rfl rfl, tw_mem 5 (by decide +kernel) rfl, by decide, by decide +kernel, _, _, Or.inl rfl⟩
theorem s_Asm_settle : Iv y_Asm_settle := ⟨tw_mem 452 (by decide +kernel) rfl, tw_sel (n := 7) 10 (by decide +kernel)⟩
def y_Asm_take : MethodName := ⟨"DrumMachine$Assembler", "take", "(I)I"⟩
abbrev b_Asm_take : ByteArray := prog_3_method_5_code
abbrev w_Asm_take : Cond := .code y_Asm_take b_Asm_take 4 (some .int)
set_option maxRecDepth 100000 in
theorem m_Asm_take : Mi y_Asm_take w_Asm_take 4 1 := ⟨tw_mem 457 rfl rfl, tw_mem 5 (by decide +kernel) rfl, by decide, by decide +kernel, _, _, Or.inl rfl⟩
theorem s_Asm_take : Iv y_Asm_take := ⟨tw_mem 456 (by decide +kernel) rfl, tw_sel (n := 7) 11 (by decide +kernel)⟩
def y_Asm_complete : MethodName := ⟨"DrumMachine$Assembler", "complete", "(I)V"⟩
abbrev b_Asm_complete : ByteArray := prog_3_method_8_code
abbrev w_Asm_complete : Cond := .code y_Asm_complete b_Asm_complete 5 none
set_option maxRecDepth 100000 in
theorem m_Asm_complete : Mi y_Asm_complete w_Asm_complete 5 1 := ⟨tw_mem 461 rfl rfl, tw_mem 5 (by decide +kernel) rfl, by decide, by decide +kernel, _, _, Or.inl rfl⟩
theorem s_Asm_complete : Iv y_Asm_complete := ⟨tw_mem 460 (by decide +kernel) rfl, tw_sel (n := 7) 12 (by decide +kernel)⟩
def y_Mach_accesses : MethodName := ⟨"DrumMachine", "accesses", "(LDrumMachine$Kind;)Z"⟩
abbrev b_Mach_accesses : ByteArray := prog_1_method_2_code
abbrev w_Mach_accesses : Cond := .code y_Mach_accesses b_Mach_accesses 1 (some .boolean)
set_option maxRecDepth 100000 in
theorem m_Mach_accesses : Mi y_Mach_accesses w_Mach_accesses 1 1 := ⟨tw_mem 465 rfl rfl, tw_mem 1 (by decide +kernel) rfl, by decide, by decide +kernel, _, _, Or.inl rfl⟩
theorem s_Mach_accesses : Cond.static y_Mach_accesses ∈ tw := tw_mem 464 (by decide +kernel) rfl
def y_Mach_takes : MethodName := ⟨"DrumMachine", "takes", "(LDrumMachine$Kind;II)I"⟩
abbrev b_Mach_takes : ByteArray := prog_1_method_4_code
abbrev w_Mach_takes : Cond := .code y_Mach_takes b_Mach_takes 3 (some .int)
set_option maxRecDepth 100000 in
theorem m_Mach_takes : Mi y_Mach_takes w_Mach_takes 3 3 := ⟨tw_mem 468 rfl rfl, tw_mem 1 (by decide +kernel) rfl, by decide, by decide +kernel, _, _, Or.inl rfl⟩
theorem s_Mach_takes : Cond.static y_Mach_takes ∈ tw := tw_mem 467 (by decide +kernel) rfl
def y_Law_place : MethodName := ⟨"DrumMachineLaw", "place", "(LDrumMachine;I[J)I"⟩
abbrev b_Law_place : ByteArray := method_9_code
abbrev w_Law_place : Cond := .codeWith y_Law_place b_Law_place 4 (some .int) [(0, 9, 12, 13)]
set_option maxRecDepth 100000 in
theorem m_Law_place : Mi y_Law_place w_Law_place 4 3 := ⟨tw_mem 494 rfl rfl, tw_mem 0 (by decide +kernel) rfl, by decide, by decide +kernel, _, _, Or.inr ⟨_, rfl⟩⟩
theorem s_Law_place : Cond.static y_Law_place ∈ tw := tw_mem 493 (by decide +kernel) rfl
def y_Mach_place : MethodName := ⟨"DrumMachine", "place", "(I)I"⟩
abbrev b_Mach_place : ByteArray := prog_1_method_28_code
abbrev w_Mach_place : Cond := .code y_Mach_place b_Mach_place 2 (some .int)
set_option maxRecDepth 100000 in
theorem m_Mach_place : Mi y_Mach_place w_Mach_place 2 1 := ⟨tw_mem 498 rfl rfl, tw_mem 1 (by decide +kernel) rfl, by decide, by decide +kernel, _, _, Or.inl rfl⟩
theorem s_Mach_place : Iv y_Mach_place := ⟨tw_mem 496 (by decide +kernel) rfl, tw_mem 497 (by decide +kernel) rfl⟩
def y_Law_start : MethodName := ⟨"DrumMachineLaw", "start", "(LDrumMachine;I)I"⟩
abbrev b_Law_start : ByteArray := method_10_code
abbrev w_Law_start : Cond := .codeWith y_Law_start b_Law_start 3 (some .int) [(0, 5, 8, 15)]
set_option maxRecDepth 100000 in
theorem m_Law_start : Mi y_Law_start w_Law_start 3 2 := ⟨tw_mem 501 rfl rfl, tw_mem 0 (by decide +kernel) rfl, by decide, by decide +kernel, _, _, Or.inr ⟨_, rfl⟩⟩
theorem s_Law_start : Cond.static y_Law_start ∈ tw := tw_mem 500 (by decide +kernel) rfl
def y_Mach_start : MethodName := ⟨"DrumMachine", "start", "(I)V"⟩
abbrev b_Mach_start : ByteArray := prog_1_method_17_code
abbrev w_Mach_start : Cond := .code y_Mach_start b_Mach_start 2 none
set_option maxRecDepth 100000 in
theorem m_Mach_start : Mi y_Mach_start w_Mach_start 2 1 := ⟨tw_mem 505 rfl rfl, tw_mem 1 (by decide +kernel) rfl, by decide, by decide +kernel, _, _, Or.inl rfl⟩
theorem s_Mach_start : Iv y_Mach_start := ⟨tw_mem 503 (by decide +kernel) rfl, tw_mem 504 (by decide +kernel) rfl⟩
def y_Law_run : MethodName := ⟨"DrumMachineLaw", "run", "(LDrumMachine;I[J)I"⟩
abbrev b_Law_run : ByteArray := method_11_code
abbrev w_Law_run : Cond := .codeWith y_Law_run b_Law_run 4 (some .int) [(0, 9, 12, 15), (0, 9, 15, 25)]
set_option maxRecDepth 100000 in
theorem m_Law_run : Mi y_Law_run w_Law_run 4 3 := ⟨tw_mem 508 rfl rfl, tw_mem 0 (by decide +kernel) rfl, by decide, by decide +kernel, _, _, Or.inr ⟨_, rfl⟩⟩
theorem s_Law_run : Cond.static y_Law_run ∈ tw := tw_mem 507 (by decide +kernel) rfl
def y_Mach_run : MethodName := ⟨"DrumMachine", "run", "(I)I"⟩
abbrev b_Mach_run : ByteArray := prog_1_method_18_code
abbrev w_Mach_run : Cond := .code y_Mach_run b_Mach_run 3 (some .int)
set_option maxRecDepth 100000 in
theorem m_Mach_run : Mi y_Mach_run w_Mach_run 3 1 := ⟨tw_mem 512 rfl rfl, tw_mem 1 (by decide +kernel) rfl, by decide, by decide +kernel, _, _, Or.inl rfl⟩
theorem s_Mach_run : Iv y_Mach_run := ⟨tw_mem 510 (by decide +kernel) rfl, tw_mem 511 (by decide +kernel) rfl⟩
def y_Mach_step : MethodName := ⟨"DrumMachine", "step", "()I"⟩
abbrev b_Mach_step : ByteArray := prog_1_method_16_code
abbrev w_Mach_step : Cond := .code y_Mach_step b_Mach_step 6 (some .int)
set_option maxRecDepth 100000 in
theorem m_Mach_step : Mi y_Mach_step w_Mach_step 6 0 := ⟨tw_mem 516 rfl rfl, tw_mem 1 (by decide +kernel) rfl, by decide, by decide +kernel, _, _, Or.inl rfl⟩
theorem s_Mach_step : Iv y_Mach_step := ⟨tw_mem 515 (by decide +kernel) rfl, tw_sel (n := 13) 13 (by decide +kernel)⟩
def y_Drum_come : MethodName := ⟨"DrumMachine$Drum", "come", "(I)V"⟩
abbrev b_Drum_come : ByteArray := prog_4_method_8_code
abbrev w_Drum_come : Cond := .code y_Drum_come b_Drum_come 3 none
set_option maxRecDepth 100000 in
theorem m_Drum_come : Mi y_Drum_come w_Drum_come 3 1 := ⟨tw_mem 520 rfl rfl, tw_mem 2 (by decide +kernel) rfl, by decide, by decide +kernel, _, _, Or.inl rfl⟩
theorem s_Drum_come : Iv y_Drum_come := ⟨tw_mem 519 (by decide +kernel) rfl, tw_sel (n := 2) 14 (by decide +kernel)⟩
def y_Drum_pass : MethodName := ⟨"DrumMachine$Drum", "pass", "(I)V"⟩
abbrev b_Drum_pass : ByteArray := prog_4_method_7_code
abbrev w_Drum_pass : Cond := .code y_Drum_pass b_Drum_pass 2 none
set_option maxRecDepth 100000 in
theorem m_Drum_pass : Mi y_Drum_pass w_Drum_pass 2 1 := ⟨tw_mem 525 rfl rfl, tw_mem 2 (by decide +kernel) rfl, by decide, by decide +kernel, _, _, Or.inl rfl⟩
theorem s_Drum_pass : Iv y_Drum_pass := ⟨tw_mem 524 (by decide +kernel) rfl, tw_sel (n := 2) 15 (by decide +kernel)⟩
def y_Drum_fetch : MethodName := ⟨"DrumMachine$Drum", "fetch", "(ILDrumMachine$Word;)V"⟩
abbrev b_Drum_fetch : ByteArray := prog_4_method_5_code
abbrev w_Drum_fetch : Cond := .code y_Drum_fetch b_Drum_fetch 4 none
set_option maxRecDepth 100000 in
theorem m_Drum_fetch : Mi y_Drum_fetch w_Drum_fetch 4 2 := ⟨tw_mem 529 rfl rfl, tw_mem 2 (by decide +kernel) rfl, by decide, by decide +kernel, _, _, Or.inl rfl⟩
theorem s_Drum_fetch : Iv y_Drum_fetch := ⟨tw_mem 528 (by decide +kernel) rfl, tw_sel (n := 2) 16 (by decide +kernel)⟩
def y_Word_part : MethodName := ⟨"DrumMachine$Word", "part", "(II)I"⟩
abbrev b_Word_part : ByteArray := prog_7_method_6_code
abbrev w_Word_part : Cond := .code y_Word_part b_Word_part 5 (some .int)
set_option maxRecDepth 100000 in
theorem m_Word_part : Mi y_Word_part w_Word_part 5 2 := ⟨tw_mem 533 rfl rfl, tw_mem 4 (by decide +kernel) rfl, by decide, by decide +kernel, _, _, Or.inl rfl⟩
theorem s_Word_part : Iv y_Word_part := ⟨tw_mem 532 (by decide +kernel) rfl, tw_sel (n := 2) 17 (by decide +kernel)⟩
def y_Mach_access : MethodName := ⟨"DrumMachine", "access", "(LDrumMachine$Kind;II)I"⟩
abbrev b_Mach_access : ByteArray := prog_1_method_13_code
abbrev w_Mach_access : Cond := .code y_Mach_access b_Mach_access 4 (some .int)
set_option maxRecDepth 100000 in
theorem m_Mach_access : Mi y_Mach_access w_Mach_access 4 3 := ⟨tw_mem 538 rfl rfl, tw_mem 1 (by decide +kernel) rfl, by decide, by decide +kernel, _, _, Or.inl rfl⟩
theorem s_Mach_access : Iv y_Mach_access := ⟨tw_mem 537 (by decide +kernel) rfl, tw_sel (n := 13) 18 (by decide +kernel)⟩
def y_Mach_reads : MethodName := ⟨"DrumMachine", "reads", "(LDrumMachine$Kind;)Z"⟩
abbrev b_Mach_reads : ByteArray := prog_1_method_3_code
abbrev w_Mach_reads : Cond := .code y_Mach_reads b_Mach_reads 1 (some .boolean)
set_option maxRecDepth 100000 in
theorem m_Mach_reads : Mi y_Mach_reads w_Mach_reads 1 1 := ⟨tw_mem 541 rfl rfl, tw_mem 1 (by decide +kernel) rfl, by decide, by decide +kernel, _, _, Or.inl rfl⟩
theorem s_Mach_reads : Cond.static y_Mach_reads ∈ tw := tw_mem 540 (by decide +kernel) rfl
def y_Mach_store : MethodName := ⟨"DrumMachine", "store", "(II)I"⟩
abbrev b_Mach_store : ByteArray := prog_1_method_11_code
abbrev w_Mach_store : Cond := .code y_Mach_store b_Mach_store 4 (some .int)
set_option maxRecDepth 100000 in
theorem m_Mach_store : Mi y_Mach_store w_Mach_store 4 2 := ⟨tw_mem 545 rfl rfl, tw_mem 1 (by decide +kernel) rfl, by decide, by decide +kernel, _, _, Or.inl rfl⟩
theorem s_Mach_store : Iv y_Mach_store := ⟨tw_mem 544 (by decide +kernel) rfl, tw_sel (n := 13) 19 (by decide +kernel)⟩
def y_Acc_half : MethodName := ⟨"DrumMachine$Accumulator", "half", "(ZLDrumMachine$Word;)V"⟩
abbrev b_Acc_half : ByteArray := prog_2_method_4_code
abbrev w_Acc_half : Cond := .code y_Acc_half b_Acc_half 4 none
set_option maxRecDepth 100000 in
theorem m_Acc_half : Mi y_Acc_half w_Acc_half 4 2 := ⟨tw_mem 549 rfl rfl, tw_mem 3 (by decide +kernel) rfl, by decide, by decide +kernel, _, _, Or.inl rfl⟩
theorem s_Acc_half : Iv y_Acc_half := ⟨tw_mem 548 (by decide +kernel) rfl, tw_sel (n := 5) 20 (by decide +kernel)⟩
def y_Word_setAddress : MethodName := ⟨"DrumMachine$Word", "setAddress", "(I)V"⟩
abbrev b_Word_setAddress : ByteArray := prog_7_method_7_code
abbrev w_Word_setAddress : Cond := .code y_Word_setAddress b_Word_setAddress 4 none
set_option maxRecDepth 100000 in
theorem m_Word_setAddress : Mi y_Word_setAddress w_Word_setAddress 4 1 := ⟨tw_mem 553 rfl rfl, tw_mem 4 (by decide +kernel) rfl, by decide, by decide +kernel, _, _, Or.inl rfl⟩
theorem s_Word_setAddress : Iv y_Word_setAddress := ⟨tw_mem 552 (by decide +kernel) rfl, tw_sel (n := 2) 21 (by decide +kernel)⟩
def y_Word_copy : MethodName := ⟨"DrumMachine$Word", "copy", "(LDrumMachine$Word;)V"⟩
abbrev b_Word_copy : ByteArray := prog_7_method_3_code
abbrev w_Word_copy : Cond := .code y_Word_copy b_Word_copy 3 none
set_option maxRecDepth 100000 in
theorem m_Word_copy : Mi y_Word_copy w_Word_copy 3 1 := ⟨tw_mem 557 rfl rfl, tw_mem 4 (by decide +kernel) rfl, by decide, by decide +kernel, _, _, Or.inl rfl⟩
theorem s_Word_copy : Iv y_Word_copy := ⟨tw_mem 556 (by decide +kernel) rfl, tw_sel (n := 2) 22 (by decide +kernel)⟩
def y_Mach_readCard : MethodName := ⟨"DrumMachine", "readCard", "(I)I"⟩
abbrev b_Mach_readCard : ByteArray := prog_1_method_12_code
abbrev w_Mach_readCard : Cond := .code y_Mach_readCard b_Mach_readCard 2 (some .int)
set_option maxRecDepth 100000 in
theorem m_Mach_readCard : Mi y_Mach_readCard w_Mach_readCard 2 1 := ⟨tw_mem 561 rfl rfl, tw_mem 1 (by decide +kernel) rfl, by decide, by decide +kernel, _, _, Or.inl rfl⟩
theorem s_Mach_readCard : Iv y_Mach_readCard := ⟨tw_mem 560 (by decide +kernel) rfl, tw_sel (n := 13) 23 (by decide +kernel)⟩
def y_Mach_look : MethodName := ⟨"DrumMachine", "look", "(I)I"⟩
abbrev b_Mach_look : ByteArray := prog_1_method_10_code
abbrev w_Mach_look : Cond := .code y_Mach_look b_Mach_look 5 (some .int)
set_option maxRecDepth 100000 in
theorem m_Mach_look : Mi y_Mach_look w_Mach_look 5 1 := ⟨tw_mem 567 rfl rfl, tw_mem 1 (by decide +kernel) rfl, by decide, by decide +kernel, _, _, Or.inl rfl⟩
theorem s_Mach_look : Iv y_Mach_look := ⟨tw_mem 566 (by decide +kernel) rfl, tw_sel (n := 13) 24 (by decide +kernel)⟩
def y_Word_isBelow : MethodName := ⟨"DrumMachine$Word", "isBelow", "(LDrumMachine$Word;)Z"⟩
abbrev b_Word_isBelow : ByteArray := prog_7_method_8_code
abbrev w_Word_isBelow : Cond := .code y_Word_isBelow b_Word_isBelow 2 (some .boolean)
set_option maxRecDepth 100000 in
theorem m_Word_isBelow : Mi y_Word_isBelow w_Word_isBelow 2 1 := ⟨tw_mem 571 rfl rfl, tw_mem 4 (by decide +kernel) rfl, by decide, by decide +kernel, _, _, Or.inl rfl⟩
theorem s_Word_isBelow : Iv y_Word_isBelow := ⟨tw_mem 570 (by decide +kernel) rfl, tw_sel (n := 2) 25 (by decide +kernel)⟩
def y_Word_value : MethodName := ⟨"DrumMachine$Word", "value", "()J"⟩
abbrev b_Word_value : ByteArray := prog_7_method_4_code
abbrev w_Word_value : Cond := .code y_Word_value b_Word_value 4 (some .long)
set_option maxRecDepth 100000 in
theorem m_Word_value : Mi y_Word_value w_Word_value 4 0 := ⟨tw_mem 575 rfl rfl, tw_mem 4 (by decide +kernel) rfl, by decide, by decide +kernel, _, _, Or.inl rfl⟩
theorem s_Word_value : Iv y_Word_value := ⟨tw_mem 574 (by decide +kernel) rfl, tw_sel (n := 2) 26 (by decide +kernel)⟩
def y_Mach_work : MethodName := ⟨"DrumMachine", "work", "(LDrumMachine$Kind;I)I"⟩
abbrev b_Mach_work : ByteArray := prog_1_method_9_code
abbrev w_Mach_work : Cond := .code y_Mach_work b_Mach_work 5 (some .int)
set_option maxRecDepth 100000 in
theorem m_Mach_work : Mi y_Mach_work w_Mach_work 5 2 := ⟨tw_mem 579 rfl rfl, tw_mem 1 (by decide +kernel) rfl, by decide, by decide +kernel, _, _, Or.inl rfl⟩
theorem s_Mach_work : Iv y_Mach_work := ⟨tw_mem 578 (by decide +kernel) rfl, tw_sel (n := 13) 27 (by decide +kernel)⟩
def y_Acc_reset : MethodName := ⟨"DrumMachine$Accumulator", "reset", "()V"⟩
abbrev b_Acc_reset : ByteArray := prog_2_method_3_code
abbrev w_Acc_reset : Cond := .code y_Acc_reset b_Acc_reset 1 none
set_option maxRecDepth 100000 in
theorem m_Acc_reset : Mi y_Acc_reset w_Acc_reset 1 0 := ⟨tw_mem 583 rfl rfl, tw_mem 3 (by decide +kernel) rfl, by decide, by decide +kernel, _, _, Or.inl rfl⟩
theorem s_Acc_reset : Iv y_Acc_reset := ⟨tw_mem 582 (by decide +kernel) rfl, tw_sel (n := 5) 28 (by decide +kernel)⟩
def y_Acc_empty : MethodName := ⟨"DrumMachine$Accumulator", "empty", "()V"⟩
abbrev b_Acc_empty : ByteArray := prog_2_method_2_code
abbrev w_Acc_empty : Cond := .code y_Acc_empty b_Acc_empty 2 none
set_option maxRecDepth 100000 in
theorem m_Acc_empty : Mi y_Acc_empty w_Acc_empty 2 0 := ⟨tw_mem 587 rfl rfl, tw_mem 3 (by decide +kernel) rfl, by decide, by decide +kernel, _, _, Or.inl rfl⟩
theorem s_Acc_empty : Iv y_Acc_empty := ⟨tw_mem 586 (by decide +kernel) rfl, tw_sel (n := 5) 29 (by decide +kernel)⟩
def y_Acc_add : MethodName := ⟨"DrumMachine$Accumulator", "add", "(LDrumMachine$Word;IZ)V"⟩
abbrev b_Acc_add : ByteArray := prog_2_method_10_code
abbrev w_Acc_add : Cond := .code y_Acc_add b_Acc_add 4 none
set_option maxRecDepth 100000 in
theorem m_Acc_add : Mi y_Acc_add w_Acc_add 4 3 := ⟨tw_mem 591 rfl rfl, tw_mem 3 (by decide +kernel) rfl, by decide, by decide +kernel, _, _, Or.inl rfl⟩
theorem s_Acc_add : Iv y_Acc_add := ⟨tw_mem 590 (by decide +kernel) rfl, tw_sel (n := 5) 30 (by decide +kernel)⟩
def y_Acc_plus : MethodName := ⟨"DrumMachine$Accumulator", "plus", "(LDrumMachine$Word;I)I"⟩
abbrev b_Acc_plus : ByteArray := prog_2_method_7_code
abbrev w_Acc_plus : Cond := .code y_Acc_plus b_Acc_plus 6 (some .int)
set_option maxRecDepth 100000 in
theorem m_Acc_plus : Mi y_Acc_plus w_Acc_plus 6 2 := ⟨tw_mem 595 rfl rfl, tw_mem 3 (by decide +kernel) rfl, by decide, by decide +kernel, _, _, Or.inl rfl⟩
theorem s_Acc_plus : Iv y_Acc_plus := ⟨tw_mem 594 (by decide +kernel) rfl, tw_sel (n := 5) 31 (by decide +kernel)⟩
def y_Acc_less : MethodName := ⟨"DrumMachine$Accumulator", "less", "(LDrumMachine$Word;I)I"⟩
abbrev b_Acc_less : ByteArray := prog_2_method_8_code
abbrev w_Acc_less : Cond := .code y_Acc_less b_Acc_less 6 (some .int)
set_option maxRecDepth 100000 in
theorem m_Acc_less : Mi y_Acc_less w_Acc_less 6 2 := ⟨tw_mem 599 rfl rfl, tw_mem 3 (by decide +kernel) rfl, by decide, by decide +kernel, _, _, Or.inl rfl⟩
theorem s_Acc_less : Iv y_Acc_less := ⟨tw_mem 598 (by decide +kernel) rfl, tw_sel (n := 5) 32 (by decide +kernel)⟩
def y_Acc_turn : MethodName := ⟨"DrumMachine$Accumulator", "turn", "()V"⟩
abbrev b_Acc_turn : ByteArray := prog_2_method_9_code
abbrev w_Acc_turn : Cond := .code y_Acc_turn b_Acc_turn 4 none
set_option maxRecDepth 100000 in
theorem m_Acc_turn : Mi y_Acc_turn w_Acc_turn 4 0 := ⟨tw_mem 603 rfl rfl, tw_mem 3 (by decide +kernel) rfl, by decide, by decide +kernel, _, _, Or.inl rfl⟩
theorem s_Acc_turn : Iv y_Acc_turn := ⟨tw_mem 602 (by decide +kernel) rfl, tw_sel (n := 5) 33 (by decide +kernel)⟩
def y_Acc_multiply : MethodName := ⟨"DrumMachine$Accumulator", "multiply", "(LDrumMachine$Word;)I"⟩
abbrev b_Acc_multiply : ByteArray := prog_2_method_11_code
abbrev w_Acc_multiply : Cond := .code y_Acc_multiply b_Acc_multiply 5 (some .int)
set_option maxRecDepth 100000 in
theorem m_Acc_multiply : Mi y_Acc_multiply w_Acc_multiply 5 1 := ⟨tw_mem 607 rfl rfl, tw_mem 3 (by decide +kernel) rfl, by decide, by decide +kernel, _, _, Or.inl rfl⟩
theorem s_Acc_multiply : Iv y_Acc_multiply := ⟨tw_mem 606 (by decide +kernel) rfl, tw_sel (n := 5) 34 (by decide +kernel)⟩
def y_Acc_shiftLeft : MethodName := ⟨"DrumMachine$Accumulator", "shiftLeft", "(I)V"⟩
abbrev b_Acc_shiftLeft : ByteArray := prog_2_method_13_code
abbrev w_Acc_shiftLeft : Cond := .code y_Acc_shiftLeft b_Acc_shiftLeft 3 none
set_option maxRecDepth 100000 in
theorem m_Acc_shiftLeft : Mi y_Acc_shiftLeft w_Acc_shiftLeft 3 1 := ⟨tw_mem 612 rfl rfl, tw_mem 3 (by decide +kernel) rfl, by decide, by decide +kernel, _, _, Or.inl rfl⟩
theorem s_Acc_shiftLeft : Iv y_Acc_shiftLeft := ⟨tw_mem 611 (by decide +kernel) rfl, tw_sel (n := 5) 35 (by decide +kernel)⟩
def y_Acc_isAbove : MethodName := ⟨"DrumMachine$Accumulator", "isAbove", "(LDrumMachine$Word;I)Z"⟩
abbrev b_Acc_isAbove : ByteArray := prog_2_method_6_code
abbrev w_Acc_isAbove : Cond := .code y_Acc_isAbove b_Acc_isAbove 5 (some .boolean)
set_option maxRecDepth 100000 in
theorem m_Acc_isAbove : Mi y_Acc_isAbove w_Acc_isAbove 5 2 := ⟨tw_mem 616 rfl rfl, tw_mem 3 (by decide +kernel) rfl, by decide, by decide +kernel, _, _, Or.inl rfl⟩
theorem s_Acc_isAbove : Iv y_Acc_isAbove := ⟨tw_mem 615 (by decide +kernel) rfl, tw_sel (n := 5) 36 (by decide +kernel)⟩
def y_Acc_divide : MethodName := ⟨"DrumMachine$Accumulator", "divide", "(LDrumMachine$Word;)I"⟩
abbrev b_Acc_divide : ByteArray := prog_2_method_12_code
abbrev w_Acc_divide : Cond := .code y_Acc_divide b_Acc_divide 6 (some .int)
set_option maxRecDepth 100000 in
theorem m_Acc_divide : Mi y_Acc_divide w_Acc_divide 6 1 := ⟨tw_mem 620 rfl rfl, tw_mem 3 (by decide +kernel) rfl, by decide, by decide +kernel, _, _, Or.inl rfl⟩
theorem s_Acc_divide : Iv y_Acc_divide := ⟨tw_mem 619 (by decide +kernel) rfl, tw_sel (n := 5) 37 (by decide +kernel)⟩
def y_Mach_shift : MethodName := ⟨"DrumMachine", "shift", "(II)V"⟩
abbrev b_Mach_shift : ByteArray := prog_1_method_14_code
abbrev w_Mach_shift : Cond := .code y_Mach_shift b_Mach_shift 4 none
set_option maxRecDepth 100000 in
theorem m_Mach_shift : Mi y_Mach_shift w_Mach_shift 4 2 := ⟨tw_mem 625 rfl rfl, tw_mem 1 (by decide +kernel) rfl, by decide, by decide +kernel, _, _, Or.inl rfl⟩
theorem s_Mach_shift : Iv y_Mach_shift := ⟨tw_mem 624 (by decide +kernel) rfl, tw_sel (n := 13) 38 (by decide +kernel)⟩
def y_Acc_shiftRight : MethodName := ⟨"DrumMachine$Accumulator", "shiftRight", "(I)I"⟩
abbrev b_Acc_shiftRight : ByteArray := prog_2_method_14_code
abbrev w_Acc_shiftRight : Cond := .code y_Acc_shiftRight b_Acc_shiftRight 4 (some .int)
set_option maxRecDepth 100000 in
theorem m_Acc_shiftRight : Mi y_Acc_shiftRight w_Acc_shiftRight 4 1 := ⟨tw_mem 630 rfl rfl, tw_mem 3 (by decide +kernel) rfl, by decide, by decide +kernel, _, _, Or.inl rfl⟩
theorem s_Acc_shiftRight : Iv y_Acc_shiftRight := ⟨tw_mem 629 (by decide +kernel) rfl, tw_sel (n := 5) 39 (by decide +kernel)⟩
def y_Acc_round : MethodName := ⟨"DrumMachine$Accumulator", "round", "()V"⟩
abbrev b_Acc_round : ByteArray := prog_2_method_15_code
abbrev w_Acc_round : Cond := .code y_Acc_round b_Acc_round 2 none
set_option maxRecDepth 100000 in
theorem m_Acc_round : Mi y_Acc_round w_Acc_round 2 0 := ⟨tw_mem 634 rfl rfl, tw_mem 3 (by decide +kernel) rfl, by decide, by decide +kernel, _, _, Or.inl rfl⟩
theorem s_Acc_round : Iv y_Acc_round := ⟨tw_mem 633 (by decide +kernel) rfl, tw_sel (n := 5) 40 (by decide +kernel)⟩
def y_Mach_branches : MethodName := ⟨"DrumMachine", "branches", "(I)Z"⟩
abbrev b_Mach_branches : ByteArray := prog_1_method_15_code
abbrev w_Mach_branches : Cond := .code y_Mach_branches b_Mach_branches 3 (some .boolean)
set_option maxRecDepth 100000 in
theorem m_Mach_branches : Mi y_Mach_branches w_Mach_branches 3 1 := ⟨tw_mem 638 rfl rfl, tw_mem 1 (by decide +kernel) rfl, by decide, by decide +kernel, _, _, Or.inl rfl⟩
theorem s_Mach_branches : Iv y_Mach_branches := ⟨tw_mem 637 (by decide +kernel) rfl, tw_sel (n := 13) 41 (by decide +kernel)⟩
def y_Acc_isZero : MethodName := ⟨"DrumMachine$Accumulator", "isZero", "(I)Z"⟩
abbrev b_Acc_isZero : ByteArray := prog_2_method_5_code
abbrev w_Acc_isZero : Cond := .code y_Acc_isZero b_Acc_isZero 3 (some .boolean)
set_option maxRecDepth 100000 in
theorem m_Acc_isZero : Mi y_Acc_isZero w_Acc_isZero 3 1 := ⟨tw_mem 642 rfl rfl, tw_mem 3 (by decide +kernel) rfl, by decide, by decide +kernel, _, _, Or.inl rfl⟩
theorem s_Acc_isZero : Iv y_Acc_isZero := ⟨tw_mem 641 (by decide +kernel) rfl, tw_sel (n := 5) 42 (by decide +kernel)⟩
def y_Law_register : MethodName := ⟨"DrumMachineLaw", "register", "(LDrumMachine;I[J)I"⟩
abbrev b_Law_register : ByteArray := method_12_code
abbrev w_Law_register : Cond := .codeWith y_Law_register b_Law_register 4 (some .int) [(0, 8, 11, 13)]
set_option maxRecDepth 100000 in
theorem m_Law_register : Mi y_Law_register w_Law_register 4 3 := ⟨tw_mem 645 rfl rfl, tw_mem 0 (by decide +kernel) rfl, by decide, by decide +kernel, _, _, Or.inr ⟨_, rfl⟩⟩
theorem s_Law_register : Cond.static y_Law_register ∈ tw := tw_mem 644 (by decide +kernel) rfl
def y_Mach_register : MethodName := ⟨"DrumMachine", "register", "(I)J"⟩
abbrev b_Mach_register : ByteArray := prog_1_method_30_code
abbrev w_Mach_register : Cond := .code y_Mach_register b_Mach_register 2 (some .long)
set_option maxRecDepth 100000 in
theorem m_Mach_register : Mi y_Mach_register w_Mach_register 2 1 := ⟨tw_mem 649 rfl rfl, tw_mem 1 (by decide +kernel) rfl, by decide, by decide +kernel, _, _, Or.inl rfl⟩
theorem s_Mach_register : Iv y_Mach_register := ⟨tw_mem 647 (by decide +kernel) rfl, tw_mem 648 (by decide +kernel) rfl⟩
def y_Law_sign : MethodName := ⟨"DrumMachineLaw", "sign", "(LDrumMachine;I[J)I"⟩
abbrev b_Law_sign : ByteArray := method_13_code
abbrev w_Law_sign : Cond := .codeWith y_Law_sign b_Law_sign 4 (some .int) [(0, 16, 19, 13)]
set_option maxRecDepth 100000 in
theorem m_Law_sign : Mi y_Law_sign w_Law_sign 4 3 := ⟨tw_mem 653 rfl rfl, tw_mem 0 (by decide +kernel) rfl, by decide, by decide +kernel, _, _, Or.inr ⟨_, rfl⟩⟩
theorem s_Law_sign : Cond.static y_Law_sign ∈ tw := tw_mem 652 (by decide +kernel) rfl
def y_Mach_sign : MethodName := ⟨"DrumMachine", "sign", "(I)Z"⟩
abbrev b_Mach_sign : ByteArray := prog_1_method_31_code
abbrev w_Mach_sign : Cond := .code y_Mach_sign b_Mach_sign 2 (some .boolean)
set_option maxRecDepth 100000 in
theorem m_Mach_sign : Mi y_Mach_sign w_Mach_sign 2 1 := ⟨tw_mem 657 rfl rfl, tw_mem 1 (by decide +kernel) rfl, by decide, by decide +kernel, _, _, Or.inl rfl⟩
theorem s_Mach_sign : Iv y_Mach_sign := ⟨tw_mem 655 (by decide +kernel) rfl, tw_mem 656 (by decide +kernel) rfl⟩
def y_Law_get : MethodName := ⟨"DrumMachineLaw", "get", "(LDrumMachine;I[J)I"⟩
abbrev b_Law_get : ByteArray := method_14_code
abbrev w_Law_get : Cond := .codeWith y_Law_get b_Law_get 4 (some .int) [(0, 8, 11, 13)]
set_option maxRecDepth 100000 in
theorem m_Law_get : Mi y_Law_get w_Law_get 4 3 := ⟨tw_mem 660 rfl rfl, tw_mem 0 (by decide +kernel) rfl, by decide, by decide +kernel, _, _, Or.inr ⟨_, rfl⟩⟩
theorem s_Law_get : Cond.static y_Law_get ∈ tw := tw_mem 659 (by decide +kernel) rfl
def y_Mach_get : MethodName := ⟨"DrumMachine", "get", "(I)J"⟩
abbrev b_Mach_get : ByteArray := prog_1_method_33_code
abbrev w_Mach_get : Cond := .code y_Mach_get b_Mach_get 2 (some .long)
set_option maxRecDepth 100000 in
theorem m_Mach_get : Mi y_Mach_get w_Mach_get 2 1 := ⟨tw_mem 664 rfl rfl, tw_mem 1 (by decide +kernel) rfl, by decide, by decide +kernel, _, _, Or.inl rfl⟩
theorem s_Mach_get : Iv y_Mach_get := ⟨tw_mem 662 (by decide +kernel) rfl, tw_mem 663 (by decide +kernel) rfl⟩
def y_Word_signed : MethodName := ⟨"DrumMachine$Word", "signed", "()J"⟩
abbrev b_Word_signed : ByteArray := prog_7_method_5_code
abbrev w_Word_signed : Cond := .code y_Word_signed b_Word_signed 1 (some .long)
set_option maxRecDepth 100000 in
theorem m_Word_signed : Mi y_Word_signed w_Word_signed 1 0 := ⟨tw_mem 669 rfl rfl, tw_mem 4 (by decide +kernel) rfl, by decide, by decide +kernel, _, _, Or.inl rfl⟩
theorem s_Word_signed : Iv y_Word_signed := ⟨tw_mem 668 (by decide +kernel) rfl, tw_sel (n := 2) 43 (by decide +kernel)⟩
def y_Law_output : MethodName := ⟨"DrumMachineLaw", "output", "(LDrumMachine;I[J)I"⟩
abbrev b_Law_output : ByteArray := method_15_code
abbrev w_Law_output : Cond := .codeWith y_Law_output b_Law_output 4 (some .int) [(0, 8, 11, 13)]
set_option maxRecDepth 100000 in
theorem m_Law_output : Mi y_Law_output w_Law_output 4 3 := ⟨tw_mem 672 rfl rfl, tw_mem 0 (by decide +kernel) rfl, by decide, by decide +kernel, _, _, Or.inr ⟨_, rfl⟩⟩
theorem s_Law_output : Cond.static y_Law_output ∈ tw := tw_mem 671 (by decide +kernel) rfl
def y_Mach_output : MethodName := ⟨"DrumMachine", "output", "(I)J"⟩
abbrev b_Mach_output : ByteArray := prog_1_method_34_code
abbrev w_Mach_output : Cond := .code y_Mach_output b_Mach_output 2 (some .long)
set_option maxRecDepth 100000 in
theorem m_Mach_output : Mi y_Mach_output w_Mach_output 2 1 := ⟨tw_mem 676 rfl rfl, tw_mem 1 (by decide +kernel) rfl, by decide, by decide +kernel, _, _, Or.inl rfl⟩
theorem s_Mach_output : Iv y_Mach_output := ⟨tw_mem 674 (by decide +kernel) rfl, tw_mem 675 (by decide +kernel) rfl⟩
def y_Mod_init : MethodName := ⟨"DrumMachineModel", "<init>", "()V"⟩
abbrev b_Mod_init : ByteArray := prog_9_method_1_code
abbrev w_Mod_init : Cond := .code y_Mod_init b_Mod_init 2 none
set_option maxRecDepth 100000 in
theorem m_Mod_init : Mi y_Mod_init w_Mod_init 2 0 := ⟨tw_mem 681 rfl rfl, tw_mem 6 (by decide +kernel) rfl, by decide, by decide +kernel, _, _, Or.inl rfl⟩
theorem s_Mod_init : Cond.instanceMethod y_Mod_init ∈ tw ∧ y_Mod_init.name = "<init>" := ⟨tw_mem 680 (by decide +kernel) rfl, rfl⟩
def y_Mod_write : MethodName := ⟨"DrumMachineModel", "write", "(IJZ)V"⟩
abbrev b_Mod_write : ByteArray := prog_9_method_6_code
abbrev w_Mod_write : Cond := .code y_Mod_write b_Mod_write 9 none
set_option maxRecDepth 100000 in
theorem m_Mod_write : Mi y_Mod_write w_Mod_write 9 3 := ⟨tw_mem 686 rfl rfl, tw_mem 6 (by decide +kernel) rfl, by decide, by decide +kernel, _, _, Or.inl rfl⟩
theorem s_Mod_write : Iv y_Mod_write := ⟨tw_mem 685 (by decide +kernel) rfl, tw_sel (n := 28) 44 (by decide +kernel)⟩
def y_Mod_forgetPlaces : MethodName := ⟨"DrumMachineModel", "forgetPlaces", "()V"⟩
abbrev b_Mod_forgetPlaces : ByteArray := prog_9_method_36_code
abbrev w_Mod_forgetPlaces : Cond := .code y_Mod_forgetPlaces b_Mod_forgetPlaces 2 none
set_option maxRecDepth 100000 in
theorem m_Mod_forgetPlaces : Mi y_Mod_forgetPlaces w_Mod_forgetPlaces 2 0 := ⟨tw_mem 691 rfl rfl, tw_mem 6 (by decide +kernel) rfl, by decide, by decide +kernel, _, _, Or.inl rfl⟩
theorem s_Mod_forgetPlaces : Iv y_Mod_forgetPlaces := ⟨tw_mem 690 (by decide +kernel) rfl, tw_sel (n := 28) 45 (by decide +kernel)⟩
def y_Mod_thrown : MethodName := ⟨"DrumMachineModel", "thrown", "()I"⟩
abbrev b_Mod_thrown : ByteArray := prog_9_method_2_code
abbrev w_Mod_thrown : Cond := .code y_Mod_thrown b_Mod_thrown 1 (some .int)
set_option maxRecDepth 100000 in
theorem m_Mod_thrown : Mi y_Mod_thrown w_Mod_thrown 1 0 := ⟨tw_mem 781 rfl rfl, tw_mem 6 (by decide +kernel) rfl, by decide, by decide +kernel, _, _, Or.inl rfl⟩
theorem s_Mod_thrown : Iv y_Mod_thrown := ⟨tw_mem 779 (by decide +kernel) rfl, tw_mem 780 (by decide +kernel) rfl⟩
def y_Mod_word : MethodName := ⟨"DrumMachineModel", "word", "(IJZ)V"⟩
abbrev b_Mod_word : ByteArray := prog_9_method_9_code
abbrev w_Mod_word : Cond := .code y_Mod_word b_Mod_word 5 none
set_option maxRecDepth 100000 in
theorem m_Mod_word : Mi y_Mod_word w_Mod_word 5 3 := ⟨tw_mem 785 rfl rfl, tw_mem 6 (by decide +kernel) rfl, by decide, by decide +kernel, _, _, Or.inl rfl⟩
theorem s_Mod_word : Iv y_Mod_word := ⟨tw_mem 783 (by decide +kernel) rfl, tw_mem 784 (by decide +kernel) rfl⟩
def y_Mod_isAddress : MethodName := ⟨"DrumMachineModel", "isAddress", "(I)Z"⟩
abbrev b_Mod_isAddress : ByteArray := prog_9_method_4_code
abbrev w_Mod_isAddress : Cond := .code y_Mod_isAddress b_Mod_isAddress 1 (some .boolean)
set_option maxRecDepth 100000 in
theorem m_Mod_isAddress : Mi y_Mod_isAddress w_Mod_isAddress 1 1 := ⟨tw_mem 788 rfl rfl, tw_mem 6 (by decide +kernel) rfl, by decide, by decide +kernel, _, _, Or.inl rfl⟩
theorem s_Mod_isAddress : Cond.static y_Mod_isAddress ∈ tw := tw_mem 787 (by decide +kernel) rfl
def y_Mod_isWord : MethodName := ⟨"DrumMachineModel", "isWord", "(J)Z"⟩
abbrev b_Mod_isWord : ByteArray := prog_9_method_5_code
abbrev w_Mod_isWord : Cond := .code y_Mod_isWord b_Mod_isWord 2 (some .boolean)
set_option maxRecDepth 100000 in
theorem m_Mod_isWord : Mi y_Mod_isWord w_Mod_isWord 2 1 := ⟨tw_mem 791 rfl rfl, tw_mem 6 (by decide +kernel) rfl, by decide, by decide +kernel, _, _, Or.inl rfl⟩
theorem s_Mod_isWord : Cond.static y_Mod_isWord ∈ tw := tw_mem 790 (by decide +kernel) rfl
def y_Mod_flip : MethodName := ⟨"DrumMachineModel", "flip", "(III)Z"⟩
abbrev b_Mod_flip : ByteArray := prog_9_method_10_code
abbrev w_Mod_flip : Cond := .code y_Mod_flip b_Mod_flip 4 (some .boolean)
set_option maxRecDepth 100000 in
theorem m_Mod_flip : Mi y_Mod_flip w_Mod_flip 4 3 := ⟨tw_mem 796 rfl rfl, tw_mem 6 (by decide +kernel) rfl, by decide, by decide +kernel, _, _, Or.inl rfl⟩
theorem s_Mod_flip : Iv y_Mod_flip := ⟨tw_mem 794 (by decide +kernel) rfl, tw_mem 795 (by decide +kernel) rfl⟩
def y_Mod_value : MethodName := ⟨"DrumMachineModel", "value", "(I)J"⟩
abbrev b_Mod_value : ByteArray := prog_9_method_8_code
abbrev w_Mod_value : Cond := .code y_Mod_value b_Mod_value 7 (some .long)
set_option maxRecDepth 100000 in
theorem m_Mod_value : Mi y_Mod_value w_Mod_value 7 1 := ⟨tw_mem 800 rfl rfl, tw_mem 6 (by decide +kernel) rfl, by decide, by decide +kernel, _, _, Or.inl rfl⟩
theorem s_Mod_value : Iv y_Mod_value := ⟨tw_mem 799 (by decide +kernel) rfl, tw_sel (n := 28) 46 (by decide +kernel)⟩
def y_Mod_digitOf : MethodName := ⟨"DrumMachineModel", "digitOf", "(I)I"⟩
abbrev b_Mod_digitOf : ByteArray := prog_9_method_7_code
abbrev w_Mod_digitOf : Cond := .code y_Mod_digitOf b_Mod_digitOf 4 (some .int)
set_option maxRecDepth 100000 in
theorem m_Mod_digitOf : Mi y_Mod_digitOf w_Mod_digitOf 4 1 := ⟨tw_mem 803 rfl rfl, tw_mem 6 (by decide +kernel) rfl, by decide, by decide +kernel, _, _, Or.inl rfl⟩
theorem s_Mod_digitOf : Cond.static y_Mod_digitOf ∈ tw := tw_mem 802 (by decide +kernel) rfl
def y_Mod_card : MethodName := ⟨"DrumMachineModel", "card", "(JZ)I"⟩
abbrev b_Mod_card : ByteArray := prog_9_method_11_code
abbrev w_Mod_card : Cond := .code y_Mod_card b_Mod_card 4 (some .int)
set_option maxRecDepth 100000 in
theorem m_Mod_card : Mi y_Mod_card w_Mod_card 4 2 := ⟨tw_mem 808 rfl rfl, tw_mem 6 (by decide +kernel) rfl, by decide, by decide +kernel, _, _, Or.inl rfl⟩
theorem s_Mod_card : Iv y_Mod_card := ⟨tw_mem 806 (by decide +kernel) rfl, tw_mem 807 (by decide +kernel) rfl⟩
def y_Mod_start : MethodName := ⟨"DrumMachineModel", "start", "(I)V"⟩
abbrev b_Mod_start : ByteArray := prog_9_method_31_code
abbrev w_Mod_start : Cond := .code y_Mod_start b_Mod_start 2 none
set_option maxRecDepth 100000 in
theorem m_Mod_start : Mi y_Mod_start w_Mod_start 2 1 := ⟨tw_mem 812 rfl rfl, tw_mem 6 (by decide +kernel) rfl, by decide, by decide +kernel, _, _, Or.inl rfl⟩
theorem s_Mod_start : Iv y_Mod_start := ⟨tw_mem 810 (by decide +kernel) rfl, tw_mem 811 (by decide +kernel) rfl⟩
def y_Mod_run : MethodName := ⟨"DrumMachineModel", "run", "(I)I"⟩
abbrev b_Mod_run : ByteArray := prog_9_method_32_code
abbrev w_Mod_run : Cond := .code y_Mod_run b_Mod_run 3 (some .int)
set_option maxRecDepth 100000 in
theorem m_Mod_run : Mi y_Mod_run w_Mod_run 3 1 := ⟨tw_mem 816 rfl rfl, tw_mem 6 (by decide +kernel) rfl, by decide, by decide +kernel, _, _, Or.inl rfl⟩
theorem s_Mod_run : Iv y_Mod_run := ⟨tw_mem 814 (by decide +kernel) rfl, tw_mem 815 (by decide +kernel) rfl⟩
def y_Mod_step : MethodName := ⟨"DrumMachineModel", "step", "()Z"⟩
abbrev b_Mod_step : ByteArray := prog_9_method_30_code
abbrev w_Mod_step : Cond := .code y_Mod_step b_Mod_step 10 (some .boolean)
set_option maxRecDepth 100000 in
theorem m_Mod_step : Mi y_Mod_step w_Mod_step 10 0 := ⟨tw_mem 820 rfl rfl, tw_mem 6 (by decide +kernel) rfl, by decide, by decide +kernel, _, _, Or.inl rfl⟩
theorem s_Mod_step : Iv y_Mod_step := ⟨tw_mem 819 (by decide +kernel) rfl, tw_sel (n := 28) 47 (by decide +kernel)⟩
def y_Mod_stop : MethodName := ⟨"DrumMachineModel", "stop", "(II)Z"⟩
abbrev b_Mod_stop : ByteArray := prog_9_method_18_code
abbrev w_Mod_stop : Cond := .code y_Mod_stop b_Mod_stop 3 (some .boolean)
set_option maxRecDepth 100000 in
theorem m_Mod_stop : Mi y_Mod_stop w_Mod_stop 3 2 := ⟨tw_mem 824 rfl rfl, tw_mem 6 (by decide +kernel) rfl, by decide, by decide +kernel, _, _, Or.inl rfl⟩
theorem s_Mod_stop : Iv y_Mod_stop := ⟨tw_mem 823 (by decide +kernel) rfl, tw_sel (n := 28) 48 (by decide +kernel)⟩
def y_Mod_access : MethodName := ⟨"DrumMachineModel", "access", "(I)V"⟩
abbrev b_Mod_access : ByteArray := prog_9_method_17_code
abbrev w_Mod_access : Cond := .code y_Mod_access b_Mod_access 2 none
set_option maxRecDepth 100000 in
theorem m_Mod_access : Mi y_Mod_access w_Mod_access 2 1 := ⟨tw_mem 828 rfl rfl, tw_mem 6 (by decide +kernel) rfl, by decide, by decide +kernel, _, _, Or.inl rfl⟩
theorem s_Mod_access : Iv y_Mod_access := ⟨tw_mem 827 (by decide +kernel) rfl, tw_sel (n := 28) 49 (by decide +kernel)⟩
def y_Mod_isOperation : MethodName := ⟨"DrumMachineModel", "isOperation", "(I)Z"⟩
abbrev b_Mod_isOperation : ByteArray := prog_9_method_15_code
abbrev w_Mod_isOperation : Cond := .code y_Mod_isOperation b_Mod_isOperation 1 (some .boolean)
set_option maxRecDepth 100000 in
theorem m_Mod_isOperation : Mi y_Mod_isOperation w_Mod_isOperation 1 1 := ⟨tw_mem 834 rfl rfl, tw_mem 6 (by decide +kernel) rfl, by decide, by decide +kernel, _, _, Or.inl rfl⟩
theorem s_Mod_isOperation : Cond.static y_Mod_isOperation ∈ tw := tw_mem 833 (by decide +kernel) rfl
def y_Mod_reads : MethodName := ⟨"DrumMachineModel", "reads", "(I)Z"⟩
abbrev b_Mod_reads : ByteArray := prog_9_method_12_code
abbrev w_Mod_reads : Cond := .code y_Mod_reads b_Mod_reads 1 (some .boolean)
set_option maxRecDepth 100000 in
theorem m_Mod_reads : Mi y_Mod_reads w_Mod_reads 1 1 := ⟨tw_mem 837 rfl rfl, tw_mem 6 (by decide +kernel) rfl, by decide, by decide +kernel, _, _, Or.inl rfl⟩
theorem s_Mod_reads : Cond.static y_Mod_reads ∈ tw := tw_mem 836 (by decide +kernel) rfl
def y_Mod_writes : MethodName := ⟨"DrumMachineModel", "writes", "(I)Z"⟩
abbrev b_Mod_writes : ByteArray := prog_9_method_13_code
abbrev w_Mod_writes : Cond := .code y_Mod_writes b_Mod_writes 1 (some .boolean)
set_option maxRecDepth 100000 in
theorem m_Mod_writes : Mi y_Mod_writes w_Mod_writes 1 1 := ⟨tw_mem 840 rfl rfl, tw_mem 6 (by decide +kernel) rfl, by decide, by decide +kernel, _, _, Or.inl rfl⟩
theorem s_Mod_writes : Cond.static y_Mod_writes ∈ tw := tw_mem 839 (by decide +kernel) rfl
def y_Mod_shifts : MethodName := ⟨"DrumMachineModel", "shifts", "(I)Z"⟩
abbrev b_Mod_shifts : ByteArray := prog_9_method_14_code
abbrev w_Mod_shifts : Cond := .code y_Mod_shifts b_Mod_shifts 1 (some .boolean)
set_option maxRecDepth 100000 in
theorem m_Mod_shifts : Mi y_Mod_shifts w_Mod_shifts 1 1 := ⟨tw_mem 843 rfl rfl, tw_mem 6 (by decide +kernel) rfl, by decide, by decide +kernel, _, _, Or.inl rfl⟩
theorem s_Mod_shifts : Cond.static y_Mod_shifts ∈ tw := tw_mem 842 (by decide +kernel) rfl
def y_Mod_doRead : MethodName := ⟨"DrumMachineModel", "doRead", "(IIJZI)Z"⟩
abbrev b_Mod_doRead : ByteArray := prog_9_method_26_code
abbrev w_Mod_doRead : Cond := .code y_Mod_doRead b_Mod_doRead 7 (some .boolean)
set_option maxRecDepth 100000 in
theorem m_Mod_doRead : Mi y_Mod_doRead w_Mod_doRead 7 5 := ⟨tw_mem 847 rfl rfl, tw_mem 6 (by decide +kernel) rfl, by decide, by decide +kernel, _, _, Or.inl rfl⟩
theorem s_Mod_doRead : Iv y_Mod_doRead := ⟨tw_mem 846 (by decide +kernel) rfl, tw_sel (n := 28) 50 (by decide +kernel)⟩
def y_Mod_lookUp : MethodName := ⟨"DrumMachineModel", "lookUp", "(II)Z"⟩
abbrev b_Mod_lookUp : ByteArray := prog_9_method_27_code
abbrev w_Mod_lookUp : Cond := .code y_Mod_lookUp b_Mod_lookUp 7 (some .boolean)
set_option maxRecDepth 100000 in
theorem m_Mod_lookUp : Mi y_Mod_lookUp w_Mod_lookUp 7 2 := ⟨tw_mem 851 rfl rfl, tw_mem 6 (by decide +kernel) rfl, by decide, by decide +kernel, _, _, Or.inl rfl⟩
theorem s_Mod_lookUp : Iv y_Mod_lookUp := ⟨tw_mem 850 (by decide +kernel) rfl, tw_sel (n := 28) 51 (by decide +kernel)⟩
def y_Mod_fixed : MethodName := ⟨"DrumMachineModel", "fixed", "(II)I"⟩
abbrev b_Mod_fixed : ByteArray := prog_9_method_16_code
abbrev w_Mod_fixed : Cond := .code y_Mod_fixed b_Mod_fixed 2 (some .int)
set_option maxRecDepth 100000 in
theorem m_Mod_fixed : Mi y_Mod_fixed w_Mod_fixed 2 2 := ⟨tw_mem 854 rfl rfl, tw_mem 6 (by decide +kernel) rfl, by decide, by decide +kernel, _, _, Or.inl rfl⟩
theorem s_Mod_fixed : Cond.static y_Mod_fixed ∈ tw := tw_mem 853 (by decide +kernel) rfl
def y_Mod_divide : MethodName := ⟨"DrumMachineModel", "divide", "(JZ)V"⟩
abbrev b_Mod_divide : ByteArray := prog_9_method_22_code
abbrev w_Mod_divide : Cond := .code y_Mod_divide b_Mod_divide 11 none
set_option maxRecDepth 100000 in
theorem m_Mod_divide : Mi y_Mod_divide w_Mod_divide 11 2 := ⟨tw_mem 858 rfl rfl, tw_mem 6 (by decide +kernel) rfl, by decide, by decide +kernel, _, _, Or.inl rfl⟩
theorem s_Mod_divide : Iv y_Mod_divide := ⟨tw_mem 857 (by decide +kernel) rfl, tw_sel (n := 28) 52 (by decide +kernel)⟩
def y_Mod_sumOfDigits : MethodName := ⟨"DrumMachineModel", "sumOfDigits", "(J)I"⟩
abbrev b_Mod_sumOfDigits : ByteArray := prog_9_method_19_code
abbrev w_Mod_sumOfDigits : Cond := .code y_Mod_sumOfDigits b_Mod_sumOfDigits 5 (some .int)
set_option maxRecDepth 100000 in
theorem m_Mod_sumOfDigits : Mi y_Mod_sumOfDigits w_Mod_sumOfDigits 5 1 := ⟨tw_mem 862 rfl rfl, tw_mem 6 (by decide +kernel) rfl, by decide, by decide +kernel, _, _, Or.inl rfl⟩
theorem s_Mod_sumOfDigits : Cond.static y_Mod_sumOfDigits ∈ tw := tw_mem 861 (by decide +kernel) rfl
def y_Mod_multiply : MethodName := ⟨"DrumMachineModel", "multiply", "(JZ)V"⟩
abbrev b_Mod_multiply : ByteArray := prog_9_method_21_code
abbrev w_Mod_multiply : Cond := .code y_Mod_multiply b_Mod_multiply 14 none
set_option maxRecDepth 100000 in
theorem m_Mod_multiply : Mi y_Mod_multiply w_Mod_multiply 14 2 := ⟨tw_mem 866 rfl rfl, tw_mem 6 (by decide +kernel) rfl, by decide, by decide +kernel, _, _, Or.inl rfl⟩
theorem s_Mod_multiply : Iv y_Mod_multiply := ⟨tw_mem 865 (by decide +kernel) rfl, tw_sel (n := 28) 53 (by decide +kernel)⟩
def y_Mod_sum : MethodName := ⟨"DrumMachineModel", "sum", "(IJZ)V"⟩
abbrev b_Mod_sum : ByteArray := prog_9_method_25_code
abbrev w_Mod_sum : Cond := .code y_Mod_sum b_Mod_sum 7 none
set_option maxRecDepth 100000 in
theorem m_Mod_sum : Mi y_Mod_sum w_Mod_sum 7 3 := ⟨tw_mem 870 rfl rfl, tw_mem 6 (by decide +kernel) rfl, by decide, by decide +kernel, _, _, Or.inl rfl⟩
theorem s_Mod_sum : Iv y_Mod_sum := ⟨tw_mem 869 (by decide +kernel) rfl, tw_sel (n := 28) 54 (by decide +kernel)⟩
def y_Mod_add : MethodName := ⟨"DrumMachineModel", "add", "(JJZ)V"⟩
abbrev b_Mod_add : ByteArray := prog_9_method_20_code
abbrev w_Mod_add : Cond := .code y_Mod_add b_Mod_add 15 none
set_option maxRecDepth 100000 in
theorem m_Mod_add : Mi y_Mod_add w_Mod_add 15 3 := ⟨tw_mem 874 rfl rfl, tw_mem 6 (by decide +kernel) rfl, by decide, by decide +kernel, _, _, Or.inl rfl⟩
theorem s_Mod_add : Iv y_Mod_add := ⟨tw_mem 873 (by decide +kernel) rfl, tw_sel (n := 28) 55 (by decide +kernel)⟩
def y_Mod_doWrite : MethodName := ⟨"DrumMachineModel", "doWrite", "(III)Z"⟩
abbrev b_Mod_doWrite : ByteArray := prog_9_method_28_code
abbrev w_Mod_doWrite : Cond := .code y_Mod_doWrite b_Mod_doWrite 5 (some .boolean)
set_option maxRecDepth 100000 in
theorem m_Mod_doWrite : Mi y_Mod_doWrite w_Mod_doWrite 5 3 := ⟨tw_mem 878 rfl rfl, tw_mem 6 (by decide +kernel) rfl, by decide, by decide +kernel, _, _, Or.inl rfl⟩
theorem s_Mod_doWrite : Iv y_Mod_doWrite := ⟨tw_mem 877 (by decide +kernel) rfl, tw_sel (n := 28) 56 (by decide +kernel)⟩
def y_Mod_branches : MethodName := ⟨"DrumMachineModel", "branches", "(I)Z"⟩
abbrev b_Mod_branches : ByteArray := prog_9_method_29_code
abbrev w_Mod_branches : Cond := .code y_Mod_branches b_Mod_branches 5 (some .boolean)
set_option maxRecDepth 100000 in
theorem m_Mod_branches : Mi y_Mod_branches w_Mod_branches 5 1 := ⟨tw_mem 882 rfl rfl, tw_mem 6 (by decide +kernel) rfl, by decide, by decide +kernel, _, _, Or.inl rfl⟩
theorem s_Mod_branches : Iv y_Mod_branches := ⟨tw_mem 881 (by decide +kernel) rfl, tw_sel (n := 28) 57 (by decide +kernel)⟩
def y_Mod_shiftRight : MethodName := ⟨"DrumMachineModel", "shiftRight", "(IZ)V"⟩
abbrev b_Mod_shiftRight : ByteArray := prog_9_method_23_code
abbrev w_Mod_shiftRight : Cond := .code y_Mod_shiftRight b_Mod_shiftRight 5 none
set_option maxRecDepth 100000 in
theorem m_Mod_shiftRight : Mi y_Mod_shiftRight w_Mod_shiftRight 5 2 := ⟨tw_mem 887 rfl rfl, tw_mem 6 (by decide +kernel) rfl, by decide, by decide +kernel, _, _, Or.inl rfl⟩
theorem s_Mod_shiftRight : Iv y_Mod_shiftRight := ⟨tw_mem 886 (by decide +kernel) rfl, tw_sel (n := 28) 58 (by decide +kernel)⟩
def y_Mod_shiftLeft : MethodName := ⟨"DrumMachineModel", "shiftLeft", "(I)V"⟩
abbrev b_Mod_shiftLeft : ByteArray := prog_9_method_24_code
abbrev w_Mod_shiftLeft : Cond := .code y_Mod_shiftLeft b_Mod_shiftLeft 3 none
set_option maxRecDepth 100000 in
theorem m_Mod_shiftLeft : Mi y_Mod_shiftLeft w_Mod_shiftLeft 3 1 := ⟨tw_mem 891 rfl rfl, tw_mem 6 (by decide +kernel) rfl, by decide, by decide +kernel, _, _, Or.inl rfl⟩
theorem s_Mod_shiftLeft : Iv y_Mod_shiftLeft := ⟨tw_mem 890 (by decide +kernel) rfl, tw_sel (n := 28) 59 (by decide +kernel)⟩
def y_Mod_line : MethodName := ⟨"DrumMachineModel", "line", "(IIII)I"⟩
abbrev b_Mod_line : ByteArray := prog_9_method_34_code
abbrev w_Mod_line : Cond := .code y_Mod_line b_Mod_line 6 (some .int)
set_option maxRecDepth 100000 in
theorem m_Mod_line : Mi y_Mod_line w_Mod_line 6 4 := ⟨tw_mem 895 rfl rfl, tw_mem 6 (by decide +kernel) rfl, by decide, by decide +kernel, _, _, Or.inl rfl⟩
theorem s_Mod_line : Iv y_Mod_line := ⟨tw_mem 893 (by decide +kernel) rfl, tw_mem 894 (by decide +kernel) rfl⟩
def y_Mod_isPart : MethodName := ⟨"DrumMachineModel", "isPart", "(I)Z"⟩
abbrev b_Mod_isPart : ByteArray := prog_9_method_33_code
abbrev w_Mod_isPart : Cond := .code y_Mod_isPart b_Mod_isPart 1 (some .boolean)
set_option maxRecDepth 100000 in
theorem m_Mod_isPart : Mi y_Mod_isPart w_Mod_isPart 1 1 := ⟨tw_mem 898 rfl rfl, tw_mem 6 (by decide +kernel) rfl, by decide, by decide +kernel, _, _, Or.inl rfl⟩
theorem s_Mod_isPart : Cond.static y_Mod_isPart ∈ tw := tw_mem 897 (by decide +kernel) rfl
def y_Mod_fail : MethodName := ⟨"DrumMachineModel", "fail", "(I)I"⟩
abbrev b_Mod_fail : ByteArray := prog_9_method_3_code
abbrev w_Mod_fail : Cond := .code y_Mod_fail b_Mod_fail 2 (some .int)
set_option maxRecDepth 100000 in
theorem m_Mod_fail : Mi y_Mod_fail w_Mod_fail 2 1 := ⟨tw_mem 902 rfl rfl, tw_mem 6 (by decide +kernel) rfl, by decide, by decide +kernel, _, _, Or.inl rfl⟩
theorem s_Mod_fail : Iv y_Mod_fail := ⟨tw_mem 901 (by decide +kernel) rfl, tw_sel (n := 28) 60 (by decide +kernel)⟩
def y_Mod_reserve : MethodName := ⟨"DrumMachineModel", "reserve", "(I)V"⟩
abbrev b_Mod_reserve : ByteArray := prog_9_method_35_code
abbrev w_Mod_reserve : Cond := .code y_Mod_reserve b_Mod_reserve 2 none
set_option maxRecDepth 100000 in
theorem m_Mod_reserve : Mi y_Mod_reserve w_Mod_reserve 2 1 := ⟨tw_mem 906 rfl rfl, tw_mem 6 (by decide +kernel) rfl, by decide, by decide +kernel, _, _, Or.inl rfl⟩
theorem s_Mod_reserve : Iv y_Mod_reserve := ⟨tw_mem 904 (by decide +kernel) rfl, tw_mem 905 (by decide +kernel) rfl⟩
def y_Mod_clear : MethodName := ⟨"DrumMachineModel", "clear", "()V"⟩
abbrev b_Mod_clear : ByteArray := prog_9_method_37_code
abbrev w_Mod_clear : Cond := .code y_Mod_clear b_Mod_clear 2 none
set_option maxRecDepth 100000 in
theorem m_Mod_clear : Mi y_Mod_clear w_Mod_clear 2 0 := ⟨tw_mem 910 rfl rfl, tw_mem 6 (by decide +kernel) rfl, by decide, by decide +kernel, _, _, Or.inl rfl⟩
theorem s_Mod_clear : Iv y_Mod_clear := ⟨tw_mem 908 (by decide +kernel) rfl, tw_mem 909 (by decide +kernel) rfl⟩
def y_Mod_assemble : MethodName := ⟨"DrumMachineModel", "assemble", "(Z)I"⟩
abbrev b_Mod_assemble : ByteArray := prog_9_method_42_code
abbrev w_Mod_assemble : Cond := .code y_Mod_assemble b_Mod_assemble 4 (some .int)
set_option maxRecDepth 100000 in
theorem m_Mod_assemble : Mi y_Mod_assemble w_Mod_assemble 4 1 := ⟨tw_mem 914 rfl rfl, tw_mem 6 (by decide +kernel) rfl, by decide, by decide +kernel, _, _, Or.inl rfl⟩
theorem s_Mod_assemble : Iv y_Mod_assemble := ⟨tw_mem 912 (by decide +kernel) rfl, tw_mem 913 (by decide +kernel) rfl⟩
def y_Mod_hold : MethodName := ⟨"DrumMachineModel", "hold", "(I)V"⟩
abbrev b_Mod_hold : ByteArray := prog_9_method_40_code
abbrev w_Mod_hold : Cond := .code y_Mod_hold b_Mod_hold 2 none
set_option maxRecDepth 100000 in
theorem m_Mod_hold : Mi y_Mod_hold w_Mod_hold 2 1 := ⟨tw_mem 918 rfl rfl, tw_mem 6 (by decide +kernel) rfl, by decide, by decide +kernel, _, _, Or.inl rfl⟩
theorem s_Mod_hold : Iv y_Mod_hold := ⟨tw_mem 917 (by decide +kernel) rfl, tw_sel (n := 28) 61 (by decide +kernel)⟩
def y_Mod_settle : MethodName := ⟨"DrumMachineModel", "settle", "(IIZ)V"⟩
abbrev b_Mod_settle : ByteArray := prog_9_method_41_code
abbrev w_Mod_settle : Cond := .code y_Mod_settle b_Mod_settle 11 none
set_option maxRecDepth 100000 in
theorem m_Mod_settle : Mi y_Mod_settle w_Mod_settle 11 3 := ⟨tw_mem 922 rfl rfl, tw_mem 6 (by decide +kernel) rfl, by decide, by decide +kernel, _, _, Or.inl rfl⟩
theorem s_Mod_settle : Iv y_Mod_settle := ⟨tw_mem 921 (by decide +kernel) rfl, tw_sel (n := 28) 62 (by decide +kernel)⟩
def y_Mod_take : MethodName := ⟨"DrumMachineModel", "take", "(ZJ)I"⟩
abbrev b_Mod_take : ByteArray := prog_9_method_38_code
abbrev w_Mod_take : Cond := .code y_Mod_take b_Mod_take 7 (some .int)
set_option maxRecDepth 100000 in
theorem m_Mod_take : Mi y_Mod_take w_Mod_take 7 2 := ⟨tw_mem 926 rfl rfl, tw_mem 6 (by decide +kernel) rfl, by decide, by decide +kernel, _, _, Or.inl rfl⟩
theorem s_Mod_take : Iv y_Mod_take := ⟨tw_mem 925 (by decide +kernel) rfl, tw_sel (n := 28) 63 (by decide +kernel)⟩
def y_Mod_placeOf : MethodName := ⟨"DrumMachineModel", "placeOf", "(IZJ)I"⟩
abbrev b_Mod_placeOf : ByteArray := prog_9_method_39_code
abbrev w_Mod_placeOf : Cond := .code y_Mod_placeOf b_Mod_placeOf 6 (some .int)
set_option maxRecDepth 100000 in
theorem m_Mod_placeOf : Mi y_Mod_placeOf w_Mod_placeOf 6 3 := ⟨tw_mem 930 rfl rfl, tw_mem 6 (by decide +kernel) rfl, by decide, by decide +kernel, _, _, Or.inl rfl⟩
theorem s_Mod_placeOf : Iv y_Mod_placeOf := ⟨tw_mem 929 (by decide +kernel) rfl, tw_sel (n := 28) 64 (by decide +kernel)⟩
def y_Mod_place : MethodName := ⟨"DrumMachineModel", "place", "(I)I"⟩
abbrev b_Mod_place : ByteArray := prog_9_method_43_code
abbrev w_Mod_place : Cond := .code y_Mod_place b_Mod_place 2 (some .int)
set_option maxRecDepth 100000 in
theorem m_Mod_place : Mi y_Mod_place w_Mod_place 2 1 := ⟨tw_mem 934 rfl rfl, tw_mem 6 (by decide +kernel) rfl, by decide, by decide +kernel, _, _, Or.inl rfl⟩
theorem s_Mod_place : Iv y_Mod_place := ⟨tw_mem 932 (by decide +kernel) rfl, tw_mem 933 (by decide +kernel) rfl⟩
def y_Mod_fault : MethodName := ⟨"DrumMachineModel", "fault", "()I"⟩
abbrev b_Mod_fault : ByteArray := prog_9_method_44_code
abbrev w_Mod_fault : Cond := .code y_Mod_fault b_Mod_fault 1 (some .int)
set_option maxRecDepth 100000 in
theorem m_Mod_fault : Mi y_Mod_fault w_Mod_fault 1 0 := ⟨tw_mem 938 rfl rfl, tw_mem 6 (by decide +kernel) rfl, by decide, by decide +kernel, _, _, Or.inl rfl⟩
theorem s_Mod_fault : Iv y_Mod_fault := ⟨tw_mem 936 (by decide +kernel) rfl, tw_mem 937 (by decide +kernel) rfl⟩
def y_Mod_time : MethodName := ⟨"DrumMachineModel", "time", "()J"⟩
abbrev b_Mod_time : ByteArray := prog_9_method_45_code
abbrev w_Mod_time : Cond := .code y_Mod_time b_Mod_time 1 (some .long)
set_option maxRecDepth 100000 in
theorem m_Mod_time : Mi y_Mod_time w_Mod_time 1 0 := ⟨tw_mem 942 rfl rfl, tw_mem 6 (by decide +kernel) rfl, by decide, by decide +kernel, _, _, Or.inl rfl⟩
theorem s_Mod_time : Iv y_Mod_time := ⟨tw_mem 940 (by decide +kernel) rfl, tw_mem 941 (by decide +kernel) rfl⟩
def y_Mod_register : MethodName := ⟨"DrumMachineModel", "register", "(I)J"⟩
abbrev b_Mod_register : ByteArray := prog_9_method_46_code
abbrev w_Mod_register : Cond := .code y_Mod_register b_Mod_register 2 (some .long)
set_option maxRecDepth 100000 in
theorem m_Mod_register : Mi y_Mod_register w_Mod_register 2 1 := ⟨tw_mem 946 rfl rfl, tw_mem 6 (by decide +kernel) rfl, by decide, by decide +kernel, _, _, Or.inl rfl⟩
theorem s_Mod_register : Iv y_Mod_register := ⟨tw_mem 944 (by decide +kernel) rfl, tw_mem 945 (by decide +kernel) rfl⟩
def y_Mod_sign : MethodName := ⟨"DrumMachineModel", "sign", "(I)Z"⟩
abbrev b_Mod_sign : ByteArray := prog_9_method_47_code
abbrev w_Mod_sign : Cond := .code y_Mod_sign b_Mod_sign 2 (some .boolean)
set_option maxRecDepth 100000 in
theorem m_Mod_sign : Mi y_Mod_sign w_Mod_sign 2 1 := ⟨tw_mem 950 rfl rfl, tw_mem 6 (by decide +kernel) rfl, by decide, by decide +kernel, _, _, Or.inl rfl⟩
theorem s_Mod_sign : Iv y_Mod_sign := ⟨tw_mem 948 (by decide +kernel) rfl, tw_mem 949 (by decide +kernel) rfl⟩
def y_Mod_next : MethodName := ⟨"DrumMachineModel", "next", "()I"⟩
abbrev b_Mod_next : ByteArray := prog_9_method_48_code
abbrev w_Mod_next : Cond := .code y_Mod_next b_Mod_next 1 (some .int)
set_option maxRecDepth 100000 in
theorem m_Mod_next : Mi y_Mod_next w_Mod_next 1 0 := ⟨tw_mem 954 rfl rfl, tw_mem 6 (by decide +kernel) rfl, by decide, by decide +kernel, _, _, Or.inl rfl⟩
theorem s_Mod_next : Iv y_Mod_next := ⟨tw_mem 952 (by decide +kernel) rfl, tw_mem 953 (by decide +kernel) rfl⟩
def y_Mod_get : MethodName := ⟨"DrumMachineModel", "get", "(I)J"⟩
abbrev b_Mod_get : ByteArray := prog_9_method_49_code
abbrev w_Mod_get : Cond := .code y_Mod_get b_Mod_get 4 (some .long)
set_option maxRecDepth 100000 in
theorem m_Mod_get : Mi y_Mod_get w_Mod_get 4 1 := ⟨tw_mem 958 rfl rfl, tw_mem 6 (by decide +kernel) rfl, by decide, by decide +kernel, _, _, Or.inl rfl⟩
theorem s_Mod_get : Iv y_Mod_get := ⟨tw_mem 956 (by decide +kernel) rfl, tw_mem 957 (by decide +kernel) rfl⟩
def y_Mod_output : MethodName := ⟨"DrumMachineModel", "output", "(I)J"⟩
abbrev b_Mod_output : ByteArray := prog_9_method_50_code
abbrev w_Mod_output : Cond := .code y_Mod_output b_Mod_output 2 (some .long)
set_option maxRecDepth 100000 in
theorem m_Mod_output : Mi y_Mod_output w_Mod_output 2 1 := ⟨tw_mem 963 rfl rfl, tw_mem 6 (by decide +kernel) rfl, by decide, by decide +kernel, _, _, Or.inl rfl⟩
theorem s_Mod_output : Iv y_Mod_output := ⟨tw_mem 961 (by decide +kernel) rfl, tw_mem 962 (by decide +kernel) rfl⟩
def y_Mod_outputs : MethodName := ⟨"DrumMachineModel", "outputs", "()I"⟩
abbrev b_Mod_outputs : ByteArray := prog_9_method_51_code
abbrev w_Mod_outputs : Cond := .code y_Mod_outputs b_Mod_outputs 1 (some .int)
set_option maxRecDepth 100000 in
theorem m_Mod_outputs : Mi y_Mod_outputs w_Mod_outputs 1 0 := ⟨tw_mem 967 rfl rfl, tw_mem 6 (by decide +kernel) rfl, by decide, by decide +kernel, _, _, Or.inl rfl⟩
theorem s_Mod_outputs : Iv y_Mod_outputs := ⟨tw_mem 965 (by decide +kernel) rfl, tw_mem 966 (by decide +kernel) rfl⟩
theorem cl_Law_8 : Cond.classLink "DrumMachineLaw" 8 "DrumMachine" ∈ tw := tw_mem 17 (by decide +kernel) rfl
theorem ml_Law_65 : Lk "DrumMachineLaw" 65 y_Mach_init := Or.inl (tw_mem 19 (by decide +kernel) rfl)
theorem mo_Mach_53 : Cond.methodLink "DrumMachine" 53 Lib.objectInit ∈ tw := tw_mem 22 (by decide +kernel) rfl
theorem cl_Mach_59 : Cond.classLink "DrumMachine" 59 "DrumMachine$Drum" ∈ tw := tw_mem 25 (by decide +kernel) rfl
theorem ml_Mach_61 : Lk "DrumMachine" 61 y_Drum_init := Or.inl (tw_mem 27 (by decide +kernel) rfl)
theorem mo_Drum_3 : Cond.methodLink "DrumMachine$Drum" 3 Lib.objectInit ∈ tw := tw_mem 30 (by decide +kernel) rfl
theorem cl_Drum_9 : Cond.classLink "DrumMachine$Drum" 9 "[[B" ∈ tw := tw_mem 31 (by decide +kernel) rfl
theorem ml_Drum_16 : Lk "DrumMachine$Drum" 16 y_Drum_code := Or.inl (tw_mem 33 (by decide +kernel) rfl)
theorem fl_Drum_11 : Fl "DrumMachine$Drum" 11 1 0 := ⟨_, rfl, by decide, tw_mem 36 (by decide +kernel) rfl⟩
theorem fl_Mach_259 : FlN "DrumMachine" 259 1 0 := ⟨_, "DrumMachine", rfl, by decide, tw_mem 37 (by decide +kernel) rfl⟩
theorem fl_Drum_34 : Fl "DrumMachine$Drum" 34 1 1 := ⟨_, rfl, by decide, tw_mem 38 (by decide +kernel) rfl⟩
theorem fl_Mach_311 : FlN "DrumMachine" 311 1 1 := ⟨_, "DrumMachine", rfl, by decide, tw_mem 39 (by decide +kernel) rfl⟩
theorem cl_Mach_66 : Cond.classLink "DrumMachine" 66 "DrumMachine$Accumulator" ∈ tw := tw_mem 46 (by decide +kernel) rfl
theorem ml_Mach_68 : Lk "DrumMachine" 68 y_Acc_init := Or.inr ⟨"DrumMachine", tw_mem 48 (by decide +kernel) rfl⟩
theorem mo_Acc_3 : Cond.methodLink "DrumMachine$Accumulator" 3 Lib.objectInit ∈ tw := tw_mem 51 (by decide +kernel) rfl
theorem cl_Acc_15 : Cond.classLink "DrumMachine$Accumulator" 15 "DrumMachine$Word" ∈ tw := tw_mem 52 (by decide +kernel) rfl
theorem ml_Acc_17 : Lk "DrumMachine$Accumulator" 17 y_Word_init := Or.inr ⟨"DrumMachine", tw_mem 54 (by decide +kernel) rfl⟩
theorem mo_Word_3 : Cond.methodLink "DrumMachine$Word" 3 Lib.objectInit ∈ tw := tw_mem 57 (by decide +kernel) rfl
theorem fl_Word_9 : Fl "DrumMachine$Word" 9 3 0 := ⟨_, rfl, by decide, tw_mem 58 (by decide +kernel) rfl⟩
theorem fl_Acc_32 : FlN "DrumMachine$Accumulator" 32 3 0 := ⟨_, "DrumMachine", rfl, by decide, tw_mem 59 (by decide +kernel) rfl⟩
theorem fl_Drum_24 : FlN "DrumMachine$Drum" 24 3 0 := ⟨_, "DrumMachine", rfl, by decide, tw_mem 60 (by decide +kernel) rfl⟩
theorem fl_Mach_170 : FlN "DrumMachine" 170 3 0 := ⟨_, "DrumMachine", rfl, by decide, tw_mem 61 (by decide +kernel) rfl⟩
theorem fl_Word_17 : Fl "DrumMachine$Word" 17 3 1 := ⟨_, rfl, by decide, tw_mem 62 (by decide +kernel) rfl⟩
theorem fl_Acc_33 : FlN "DrumMachine$Accumulator" 33 3 1 := ⟨_, "DrumMachine", rfl, by decide, tw_mem 63 (by decide +kernel) rfl⟩
theorem fl_Drum_30 : FlN "DrumMachine$Drum" 30 3 1 := ⟨_, "DrumMachine", rfl, by decide, tw_mem 64 (by decide +kernel) rfl⟩
theorem fl_Mach_113 : FlN "DrumMachine" 113 3 1 := ⟨_, "DrumMachine", rfl, by decide, tw_mem 65 (by decide +kernel) rfl⟩
theorem fl_Acc_9 : Fl "DrumMachine$Accumulator" 9 2 0 := ⟨_, rfl, by decide, tw_mem 72 (by decide +kernel) rfl⟩
theorem fl_Mach_166 : FlN "DrumMachine" 166 2 0 := ⟨_, "DrumMachine", rfl, by decide, tw_mem 73 (by decide +kernel) rfl⟩
theorem fl_Acc_28 : Fl "DrumMachine$Accumulator" 28 2 1 := ⟨_, rfl, by decide, tw_mem 74 (by decide +kernel) rfl⟩
theorem fl_Mach_219 : FlN "DrumMachine" 219 2 1 := ⟨_, "DrumMachine", rfl, by decide, tw_mem 75 (by decide +kernel) rfl⟩
theorem fl_Mach_129 : FlN "DrumMachine" 129 2 2 := ⟨_, "DrumMachine", rfl, by decide, tw_mem 76 (by decide +kernel) rfl⟩
theorem fl_Acc_38 : Fl "DrumMachine$Accumulator" 38 2 2 := ⟨_, rfl, by decide, tw_mem 77 (by decide +kernel) rfl⟩
theorem fl_Acc_18 : Fl "DrumMachine$Accumulator" 18 2 3 := ⟨_, rfl, by decide, tw_mem 78 (by decide +kernel) rfl⟩
theorem fl_Acc_22 : Fl "DrumMachine$Accumulator" 22 2 4 := ⟨_, rfl, by decide, tw_mem 79 (by decide +kernel) rfl⟩
theorem cl_Mach_73 : Cond.classLink "DrumMachine" 73 "DrumMachine$Word" ∈ tw := tw_mem 91 (by decide +kernel) rfl
theorem ml_Mach_75 : Lk "DrumMachine" 75 y_Word_init := Or.inr ⟨"DrumMachine", tw_mem 92 (by decide +kernel) rfl⟩
theorem cl_Mach_86 : Cond.classLink "DrumMachine" 86 "DrumMachine$Assembler" ∈ tw := tw_mem 93 (by decide +kernel) rfl
theorem ml_Mach_88 : Lk "DrumMachine" 88 y_Asm_init := Or.inl (tw_mem 95 (by decide +kernel) rfl)
theorem mo_Asm_3 : Cond.methodLink "DrumMachine$Assembler" 3 Lib.objectInit ∈ tw := tw_mem 98 (by decide +kernel) rfl
theorem cl_Asm_9 : Cond.classLink "DrumMachine$Assembler" 9 "DrumMachine$Line" ∈ tw := tw_mem 99 (by decide +kernel) rfl
theorem ml_Asm_28 : Lk "DrumMachine$Assembler" 28 y_Asm_forget := Or.inl (tw_mem 101 (by decide +kernel) rfl)
theorem fl_Asm_11 : Fl "DrumMachine$Assembler" 11 4 0 := ⟨_, rfl, by decide, tw_mem 105 (by decide +kernel) rfl⟩
theorem fl_Mach_269 : FlN "DrumMachine" 269 4 0 := ⟨_, "DrumMachine", rfl, by decide, tw_mem 106 (by decide +kernel) rfl⟩
theorem fl_Asm_38 : Fl "DrumMachine$Assembler" 38 4 1 := ⟨_, rfl, by decide, tw_mem 107 (by decide +kernel) rfl⟩
theorem fl_Mach_266 : FlN "DrumMachine" 266 4 1 := ⟨_, "DrumMachine", rfl, by decide, tw_mem 108 (by decide +kernel) rfl⟩
theorem fl_Asm_17 : Fl "DrumMachine$Assembler" 17 4 2 := ⟨_, rfl, by decide, tw_mem 109 (by decide +kernel) rfl⟩
theorem fl_Mach_278 : FlN "DrumMachine" 278 4 2 := ⟨_, "DrumMachine", rfl, by decide, tw_mem 110 (by decide +kernel) rfl⟩
theorem fl_Asm_21 : Fl "DrumMachine$Assembler" 21 4 3 := ⟨_, rfl, by decide, tw_mem 111 (by decide +kernel) rfl⟩
theorem fl_Asm_24 : Fl "DrumMachine$Assembler" 24 4 4 := ⟨_, rfl, by decide, tw_mem 112 (by decide +kernel) rfl⟩
theorem fl_Mach_308 : FlN "DrumMachine" 308 4 4 := ⟨_, "DrumMachine", rfl, by decide, tw_mem 113 (by decide +kernel) rfl⟩
theorem fl_Asm_31 : Fl "DrumMachine$Assembler" 31 4 5 := ⟨_, rfl, by decide, tw_mem 114 (by decide +kernel) rfl⟩
theorem fl_Asm_35 : Fl "DrumMachine$Assembler" 35 4 6 := ⟨_, rfl, by decide, tw_mem 115 (by decide +kernel) rfl⟩
theorem fl_Mach_62 : Fl "DrumMachine" 62 0 0 := ⟨_, rfl, by decide, tw_mem 133 (by decide +kernel) rfl⟩
theorem fl_Mach_69 : Fl "DrumMachine" 69 0 1 := ⟨_, rfl, by decide, tw_mem 134 (by decide +kernel) rfl⟩
theorem fl_Mach_76 : Fl "DrumMachine" 76 0 2 := ⟨_, rfl, by decide, tw_mem 135 (by decide +kernel) rfl⟩
theorem fl_Mach_80 : Fl "DrumMachine" 80 0 3 := ⟨_, rfl, by decide, tw_mem 136 (by decide +kernel) rfl⟩
theorem fl_Mach_83 : Fl "DrumMachine" 83 0 4 := ⟨_, rfl, by decide, tw_mem 137 (by decide +kernel) rfl⟩
theorem fl_Mach_89 : Fl "DrumMachine" 89 0 5 := ⟨_, rfl, by decide, tw_mem 138 (by decide +kernel) rfl⟩
theorem fl_Mach_93 : Fl "DrumMachine" 93 0 6 := ⟨_, rfl, by decide, tw_mem 139 (by decide +kernel) rfl⟩
theorem fl_Mach_181 : Fl "DrumMachine" 181 0 7 := ⟨_, rfl, by decide, tw_mem 140 (by decide +kernel) rfl⟩
theorem fl_Mach_178 : Fl "DrumMachine" 178 0 8 := ⟨_, rfl, by decide, tw_mem 141 (by decide +kernel) rfl⟩
theorem fl_Mach_97 : Fl "DrumMachine" 97 0 9 := ⟨_, rfl, by decide, tw_mem 142 (by decide +kernel) rfl⟩
theorem fl_Mach_135 : Fl "DrumMachine" 135 0 10 := ⟨_, rfl, by decide, tw_mem 143 (by decide +kernel) rfl⟩
theorem fl_Mach_220 : Fl "DrumMachine" 220 0 11 := ⟨_, rfl, by decide, tw_mem 144 (by decide +kernel) rfl⟩
theorem fl_Mach_241 : Fl "DrumMachine" 241 0 12 := ⟨_, rfl, by decide, tw_mem 145 (by decide +kernel) rfl⟩
theorem ml_Law_115 : Lk "DrumMachineLaw" 115 y_Mach_fault := Or.inl (tw_mem 173 (by decide +kernel) rfl)
theorem ml_Law_97 : Lk "DrumMachineLaw" 97 y_Mach_clear := Or.inl (tw_mem 177 (by decide +kernel) rfl)
theorem ml_Mach_282 : Lk "DrumMachine" 282 y_Asm_forget := Or.inr ⟨"DrumMachine", tw_mem 181 (by decide +kernel) rfl⟩
theorem ml_Law_119 : Lk "DrumMachineLaw" 119 y_Mach_time := Or.inl (tw_mem 182 (by decide +kernel) rfl)
theorem ml_Law_130 : Lk "DrumMachineLaw" 130 y_Mach_next := Or.inl (tw_mem 186 (by decide +kernel) rfl)
theorem ml_Law_140 : Lk "DrumMachineLaw" 140 y_Mach_outputs := Or.inl (tw_mem 190 (by decide +kernel) rfl)
theorem ml_Law_71 : Lk "DrumMachineLaw" 71 y_Law_word := Or.inl (tw_mem 194 (by decide +kernel) rfl)
theorem cl_Law_13 : Cond.classLink "DrumMachineLaw" 13 "java/lang/IndexOutOfBoundsException" ∈ tw := tw_mem 197 (by decide +kernel) rfl
theorem cl_Law_15 : Cond.classLink "DrumMachineLaw" 15 "java/lang/IllegalArgumentException" ∈ tw := tw_mem 198 (by decide +kernel) rfl
theorem ml_Law_7 : Lk "DrumMachineLaw" 7 y_Mach_word := Or.inl (tw_mem 199 (by decide +kernel) rfl)
theorem ml_Mach_184 : Lk "DrumMachine" 184 y_Mach_isAddress := Or.inl (tw_mem 203 (by decide +kernel) rfl)
theorem ml_Mach_250 : Lk "DrumMachine" 250 y_Mach_mustBe := Or.inl (tw_mem 206 (by decide +kernel) rfl)
theorem cl_Mach_100 : Cond.classLink "DrumMachine" 100 "java/lang/IndexOutOfBoundsException" ∈ tw := tw_mem 209 (by decide +kernel) rfl
theorem kl_Mach_253 : Cond.constantLong "DrumMachine" 253 (i64 9999999999) ∈ tw := tw_mem 273 (by decide +kernel) rfl
theorem ml_Mach_237 : Lk "DrumMachine" 237 y_Mach_need := Or.inl (tw_mem 274 (by decide +kernel) rfl)
theorem cl_Mach_103 : Cond.classLink "DrumMachine" 103 "java/lang/IllegalArgumentException" ∈ tw := tw_mem 277 (by decide +kernel) rfl
theorem ml_Mach_255 : Lk "DrumMachine" 255 y_Word_set := Or.inr ⟨"DrumMachine", tw_mem 292 (by decide +kernel) rfl⟩
theorem kl_Word_15 : Cond.constantLong "DrumMachine$Word" 15 (i64 10) ∈ tw := tw_mem 296 (by decide +kernel) rfl
theorem ml_Mach_175 : Lk "DrumMachine" 175 y_Drum_put := Or.inr ⟨"DrumMachine", tw_mem 297 (by decide +kernel) rfl⟩
theorem ml_Law_81 : Lk "DrumMachineLaw" 81 y_Law_flip := Or.inl (tw_mem 301 (by decide +kernel) rfl)
theorem ml_Law_17 : Lk "DrumMachineLaw" 17 y_Mach_flip := Or.inl (tw_mem 304 (by decide +kernel) rfl)
theorem ml_Mach_147 : Lk "DrumMachine" 147 y_Drum_isValid := Or.inr ⟨"DrumMachine", tw_mem 308 (by decide +kernel) rfl⟩
theorem ml_Drum_20 : Lk "DrumMachine$Drum" 20 y_Drum_digit := Or.inl (tw_mem 312 (by decide +kernel) rfl)
theorem ml_Law_85 : Lk "DrumMachineLaw" 85 y_Law_card := Or.inl (tw_mem 315 (by decide +kernel) rfl)
theorem cl_Law_25 : Cond.classLink "DrumMachineLaw" 25 "java/lang/IllegalStateException" ∈ tw := tw_mem 318 (by decide +kernel) rfl
theorem ml_Law_21 : Lk "DrumMachineLaw" 21 y_Mach_card := Or.inl (tw_mem 319 (by decide +kernel) rfl)
theorem cl_Mach_244 : Cond.classLink "DrumMachine" 244 "java/lang/IllegalStateException" ∈ tw := tw_mem 323 (by decide +kernel) rfl
theorem ml_Law_89 : Lk "DrumMachineLaw" 89 y_Law_line := Or.inl (tw_mem 338 (by decide +kernel) rfl)
theorem ml_Law_27 : Lk "DrumMachineLaw" 27 y_Mach_line := Or.inl (tw_mem 341 (by decide +kernel) rfl)
theorem ml_Mach_223 : Lk "DrumMachine" 223 y_Mach_kind := Or.inl (tw_mem 345 (by decide +kernel) rfl)
theorem kf_Mach_1 : Cond.fieldLink "DrumMachine" 1 "DrumMachine$Kind" "NOTHING" "LDrumMachine$Kind;" ∈ tw := tw_mem 348 (by decide +kernel) rfl
theorem kf_Mach_7 : Cond.fieldLink "DrumMachine" 7 "DrumMachine$Kind" "STOP" "LDrumMachine$Kind;" ∈ tw := tw_mem 350 (by decide +kernel) rfl
theorem kf_Mach_10 : Cond.fieldLink "DrumMachine" 10 "DrumMachine$Kind" "ADD" "LDrumMachine$Kind;" ∈ tw := tw_mem 352 (by decide +kernel) rfl
theorem kf_Mach_13 : Cond.fieldLink "DrumMachine" 13 "DrumMachine$Kind" "RESET_ADD" "LDrumMachine$Kind;" ∈ tw := tw_mem 354 (by decide +kernel) rfl
theorem kf_Mach_16 : Cond.fieldLink "DrumMachine" 16 "DrumMachine$Kind" "LOAD" "LDrumMachine$Kind;" ∈ tw := tw_mem 356 (by decide +kernel) rfl
theorem kf_Mach_19 : Cond.fieldLink "DrumMachine" 19 "DrumMachine$Kind" "MULTIPLY" "LDrumMachine$Kind;" ∈ tw := tw_mem 358 (by decide +kernel) rfl
theorem kf_Mach_22 : Cond.fieldLink "DrumMachine" 22 "DrumMachine$Kind" "DIVIDE" "LDrumMachine$Kind;" ∈ tw := tw_mem 360 (by decide +kernel) rfl
theorem kf_Mach_25 : Cond.fieldLink "DrumMachine" 25 "DrumMachine$Kind" "LOOK" "LDrumMachine$Kind;" ∈ tw := tw_mem 362 (by decide +kernel) rfl
theorem kf_Mach_28 : Cond.fieldLink "DrumMachine" 28 "DrumMachine$Kind" "STORE" "LDrumMachine$Kind;" ∈ tw := tw_mem 364 (by decide +kernel) rfl
theorem kf_Mach_31 : Cond.fieldLink "DrumMachine" 31 "DrumMachine$Kind" "READ" "LDrumMachine$Kind;" ∈ tw := tw_mem 366 (by decide +kernel) rfl
theorem kf_Mach_34 : Cond.fieldLink "DrumMachine" 34 "DrumMachine$Kind" "PUNCH" "LDrumMachine$Kind;" ∈ tw := tw_mem 368 (by decide +kernel) rfl
theorem kf_Mach_37 : Cond.fieldLink "DrumMachine" 37 "DrumMachine$Kind" "SHIFT" "LDrumMachine$Kind;" ∈ tw := tw_mem 370 (by decide +kernel) rfl
theorem kf_Mach_40 : Cond.fieldLink "DrumMachine" 40 "DrumMachine$Kind" "BRANCH" "LDrumMachine$Kind;" ∈ tw := tw_mem 372 (by decide +kernel) rfl
theorem ml_Mach_263 : Lk "DrumMachine" 263 y_Mach_isPart := Or.inl (tw_mem 374 (by decide +kernel) rfl)
theorem cl_Mach_273 : Cond.classLink "DrumMachine" 273 "DrumMachine$Line" ∈ tw := tw_mem 377 (by decide +kernel) rfl
theorem ml_Mach_275 : Lk "DrumMachine" 275 y_Line_init := Or.inl (tw_mem 379 (by decide +kernel) rfl)
theorem mo_Line_1 : Cond.methodLink "DrumMachine$Line" 1 Lib.objectInit ∈ tw := tw_mem 382 (by decide +kernel) rfl
theorem fl_Line_7 : Fl "DrumMachine$Line" 7 5 0 := ⟨_, rfl, by decide, tw_mem 383 (by decide +kernel) rfl⟩
theorem fl_Asm_42 : FlN "DrumMachine$Assembler" 42 5 0 := ⟨_, "DrumMachine", rfl, by decide, tw_mem 384 (by decide +kernel) rfl⟩
theorem fl_Line_13 : Fl "DrumMachine$Line" 13 5 1 := ⟨_, rfl, by decide, tw_mem 385 (by decide +kernel) rfl⟩
theorem fl_Asm_76 : FlN "DrumMachine$Assembler" 76 5 1 := ⟨_, "DrumMachine", rfl, by decide, tw_mem 386 (by decide +kernel) rfl⟩
theorem fl_Mach_294 : FlN "DrumMachine" 294 5 1 := ⟨_, "DrumMachine", rfl, by decide, tw_mem 387 (by decide +kernel) rfl⟩
theorem fl_Line_16 : Fl "DrumMachine$Line" 16 5 2 := ⟨_, rfl, by decide, tw_mem 388 (by decide +kernel) rfl⟩
theorem fl_Asm_53 : FlN "DrumMachine$Assembler" 53 5 2 := ⟨_, "DrumMachine", rfl, by decide, tw_mem 389 (by decide +kernel) rfl⟩
theorem fl_Line_19 : Fl "DrumMachine$Line" 19 5 3 := ⟨_, rfl, by decide, tw_mem 390 (by decide +kernel) rfl⟩
theorem fl_Asm_56 : FlN "DrumMachine$Assembler" 56 5 3 := ⟨_, "DrumMachine", rfl, by decide, tw_mem 391 (by decide +kernel) rfl⟩
theorem fl_Asm_70 : FlN "DrumMachine$Assembler" 70 5 4 := ⟨_, "DrumMachine", rfl, by decide, tw_mem 392 (by decide +kernel) rfl⟩
theorem fl_Mach_305 : FlN "DrumMachine" 305 5 4 := ⟨_, "DrumMachine", rfl, by decide, tw_mem 393 (by decide +kernel) rfl⟩
theorem fl_Asm_73 : FlN "DrumMachine$Assembler" 73 5 5 := ⟨_, "DrumMachine", rfl, by decide, tw_mem 394 (by decide +kernel) rfl⟩
theorem fl_Mach_299 : FlN "DrumMachine" 299 5 5 := ⟨_, "DrumMachine", rfl, by decide, tw_mem 395 (by decide +kernel) rfl⟩
theorem fl_Asm_67 : FlN "DrumMachine$Assembler" 67 5 6 := ⟨_, "DrumMachine", rfl, by decide, tw_mem 396 (by decide +kernel) rfl⟩
theorem fl_Mach_302 : FlN "DrumMachine" 302 5 6 := ⟨_, "DrumMachine", rfl, by decide, tw_mem 397 (by decide +kernel) rfl⟩
theorem ml_Law_93 : Lk "DrumMachineLaw" 93 y_Law_reserve := Or.inl (tw_mem 413 (by decide +kernel) rfl)
theorem ml_Law_31 : Lk "DrumMachineLaw" 31 y_Mach_reserve := Or.inl (tw_mem 416 (by decide +kernel) rfl)
theorem ml_Law_101 : Lk "DrumMachineLaw" 101 y_Law_assemble := Or.inl (tw_mem 420 (by decide +kernel) rfl)
theorem cl_Law_39 : Cond.classLink "DrumMachineLaw" 39 "java/lang/UnsupportedOperationException" ∈ tw := tw_mem 423 (by decide +kernel) rfl
theorem ml_Law_35 : Lk "DrumMachineLaw" 35 y_Mach_assemble := Or.inl (tw_mem 424 (by decide +kernel) rfl)
theorem ml_Mach_285 : Lk "DrumMachine" 285 y_Asm_gives := Or.inr ⟨"DrumMachine", tw_mem 428 (by decide +kernel) rfl⟩
theorem ml_Asm_91 : Lk "DrumMachine$Assembler" 91 y_Asm_begin := Or.inl (tw_mem 432 (by decide +kernel) rfl)
theorem ml_Asm_45 : Lk "DrumMachine$Assembler" 45 y_Asm_mark := Or.inl (tw_mem 436 (by decide +kernel) rfl)
theorem ml_Asm_49 : Lk "DrumMachine$Assembler" 49 y_Line_shifts := Or.inr ⟨"DrumMachine", tw_mem 440 (by decide +kernel) rfl⟩
theorem ml_Line_22 : Lk "DrumMachine$Line" 22 y_Mach_kind := Or.inr ⟨"DrumMachine", tw_mem 444 (by decide +kernel) rfl⟩
theorem kf_Line_28 : Cond.fieldLink "DrumMachine$Line" 28 "DrumMachine$Kind" "SHIFT" "LDrumMachine$Kind;" ∈ tw := tw_mem 445 (by decide +kernel) rfl
theorem ml_Asm_95 : Lk "DrumMachine$Assembler" 95 y_Asm_locate := Or.inl (tw_mem 446 (by decide +kernel) rfl)
theorem ml_Asm_63 : Lk "DrumMachine$Assembler" 63 y_Asm_settle := Or.inl (tw_mem 450 (by decide +kernel) rfl)
theorem ml_Asm_59 : Lk "DrumMachine$Assembler" 59 y_Asm_take := Or.inl (tw_mem 454 (by decide +kernel) rfl)
theorem ml_Asm_98 : Lk "DrumMachine$Assembler" 98 y_Asm_complete := Or.inl (tw_mem 458 (by decide +kernel) rfl)
theorem ml_Asm_79 : Lk "DrumMachine$Assembler" 79 y_Mach_kind := Or.inr ⟨"DrumMachine", tw_mem 462 (by decide +kernel) rfl⟩
theorem ml_Asm_83 : Lk "DrumMachine$Assembler" 83 y_Mach_accesses := Or.inr ⟨"DrumMachine", tw_mem 463 (by decide +kernel) rfl⟩
theorem ml_Asm_87 : Lk "DrumMachine$Assembler" 87 y_Mach_takes := Or.inr ⟨"DrumMachine", tw_mem 466 (by decide +kernel) rfl⟩
theorem cl_Mach_289 : Cond.classLink "DrumMachine" 289 "java/lang/UnsupportedOperationException" ∈ tw := tw_mem 475 (by decide +kernel) rfl
theorem kl_Mach_292 : Cond.constantLong "DrumMachine" 292 (i64 100000000) ∈ tw := tw_mem 490 (by decide +kernel) rfl
theorem kl_Mach_297 : Cond.constantLong "DrumMachine" 297 (i64 10000) ∈ tw := tw_mem 491 (by decide +kernel) rfl
theorem ml_Law_105 : Lk "DrumMachineLaw" 105 y_Law_place := Or.inl (tw_mem 492 (by decide +kernel) rfl)
theorem ml_Law_41 : Lk "DrumMachineLaw" 41 y_Mach_place := Or.inl (tw_mem 495 (by decide +kernel) rfl)
theorem ml_Law_109 : Lk "DrumMachineLaw" 109 y_Law_start := Or.inl (tw_mem 499 (by decide +kernel) rfl)
theorem ml_Law_45 : Lk "DrumMachineLaw" 45 y_Mach_start := Or.inl (tw_mem 502 (by decide +kernel) rfl)
theorem ml_Law_112 : Lk "DrumMachineLaw" 112 y_Law_run := Or.inl (tw_mem 506 (by decide +kernel) rfl)
theorem ml_Law_48 : Lk "DrumMachineLaw" 48 y_Mach_run := Or.inl (tw_mem 509 (by decide +kernel) rfl)
theorem ml_Mach_247 : Lk "DrumMachine" 247 y_Mach_step := Or.inl (tw_mem 513 (by decide +kernel) rfl)
theorem ml_Mach_187 : Lk "DrumMachine" 187 y_Drum_come := Or.inr ⟨"DrumMachine", tw_mem 517 (by decide +kernel) rfl⟩
theorem kl_Drum_38 : Cond.constantLong "DrumMachine$Drum" 38 (i64 50) ∈ tw := tw_mem 521 (by decide +kernel) rfl
theorem ml_Drum_40 : Lk "DrumMachine$Drum" 40 y_Drum_pass := Or.inl (tw_mem 522 (by decide +kernel) rfl)
theorem ml_Mach_151 : Lk "DrumMachine" 151 y_Drum_fetch := Or.inr ⟨"DrumMachine", tw_mem 526 (by decide +kernel) rfl⟩
theorem ml_Mach_171 : Lk "DrumMachine" 171 y_Word_part := Or.inr ⟨"DrumMachine", tw_mem 530 (by decide +kernel) rfl⟩
theorem ml_Mach_43 : Lk "DrumMachine" 43 y_Mach_accesses := Or.inl (tw_mem 534 (by decide +kernel) rfl)
theorem ml_Mach_227 : Lk "DrumMachine" 227 y_Mach_access := Or.inl (tw_mem 535 (by decide +kernel) rfl)
theorem ml_Mach_190 : Lk "DrumMachine" 190 y_Mach_reads := Or.inl (tw_mem 539 (by decide +kernel) rfl)
theorem ml_Mach_193 : Lk "DrumMachine" 193 y_Mach_store := Or.inl (tw_mem 542 (by decide +kernel) rfl)
theorem ml_Mach_159 : Lk "DrumMachine" 159 y_Acc_half := Or.inr ⟨"DrumMachine", tw_mem 546 (by decide +kernel) rfl⟩
theorem ml_Mach_163 : Lk "DrumMachine" 163 y_Word_setAddress := Or.inr ⟨"DrumMachine", tw_mem 550 (by decide +kernel) rfl⟩
theorem ml_Mach_139 : Lk "DrumMachine" 139 y_Word_copy := Or.inr ⟨"DrumMachine", tw_mem 554 (by decide +kernel) rfl⟩
theorem ml_Mach_196 : Lk "DrumMachine" 196 y_Mach_readCard := Or.inl (tw_mem 558 (by decide +kernel) rfl)
theorem ml_Mach_106 : Lk "DrumMachine" 106 y_Mach_takes := Or.inl (tw_mem 562 (by decide +kernel) rfl)
theorem ml_Mach_143 : Lk "DrumMachine" 143 y_Drum_pass := Or.inr ⟨"DrumMachine", tw_mem 563 (by decide +kernel) rfl⟩
theorem ml_Mach_200 : Lk "DrumMachine" 200 y_Mach_look := Or.inl (tw_mem 564 (by decide +kernel) rfl)
theorem ml_Mach_155 : Lk "DrumMachine" 155 y_Word_isBelow := Or.inr ⟨"DrumMachine", tw_mem 568 (by decide +kernel) rfl⟩
theorem ml_Word_21 : Lk "DrumMachine$Word" 21 y_Word_value := Or.inl (tw_mem 572 (by decide +kernel) rfl)
theorem ml_Mach_203 : Lk "DrumMachine" 203 y_Mach_work := Or.inl (tw_mem 576 (by decide +kernel) rfl)
theorem ml_Mach_110 : Lk "DrumMachine" 110 y_Acc_reset := Or.inr ⟨"DrumMachine", tw_mem 580 (by decide +kernel) rfl⟩
theorem ml_Acc_25 : Lk "DrumMachine$Accumulator" 25 y_Acc_empty := Or.inl (tw_mem 584 (by decide +kernel) rfl)
theorem ml_Mach_117 : Lk "DrumMachine" 117 y_Acc_add := Or.inr ⟨"DrumMachine", tw_mem 588 (by decide +kernel) rfl⟩
theorem ml_Acc_34 : Lk "DrumMachine$Accumulator" 34 y_Acc_plus := Or.inl (tw_mem 592 (by decide +kernel) rfl)
theorem ml_Acc_41 : Lk "DrumMachine$Accumulator" 41 y_Acc_less := Or.inl (tw_mem 596 (by decide +kernel) rfl)
theorem ml_Acc_44 : Lk "DrumMachine$Accumulator" 44 y_Acc_turn := Or.inl (tw_mem 600 (by decide +kernel) rfl)
theorem ml_Mach_121 : Lk "DrumMachine" 121 y_Acc_multiply := Or.inr ⟨"DrumMachine", tw_mem 604 (by decide +kernel) rfl⟩
theorem ml_Acc_47 : Lk "DrumMachine$Accumulator" 47 y_Acc_half := Or.inl (tw_mem 608 (by decide +kernel) rfl)
theorem ml_Acc_51 : Lk "DrumMachine$Accumulator" 51 y_Acc_shiftLeft := Or.inl (tw_mem 609 (by decide +kernel) rfl)
theorem ml_Mach_125 : Lk "DrumMachine" 125 y_Acc_isAbove := Or.inr ⟨"DrumMachine", tw_mem 613 (by decide +kernel) rfl⟩
theorem ml_Mach_132 : Lk "DrumMachine" 132 y_Acc_divide := Or.inr ⟨"DrumMachine", tw_mem 617 (by decide +kernel) rfl⟩
theorem ml_Acc_55 : Lk "DrumMachine$Accumulator" 55 y_Acc_isAbove := Or.inl (tw_mem 621 (by decide +kernel) rfl)
theorem ml_Mach_230 : Lk "DrumMachine" 230 y_Mach_shift := Or.inl (tw_mem 622 (by decide +kernel) rfl)
theorem ml_Mach_207 : Lk "DrumMachine" 207 y_Acc_shiftLeft := Or.inr ⟨"DrumMachine", tw_mem 626 (by decide +kernel) rfl⟩
theorem ml_Mach_210 : Lk "DrumMachine" 210 y_Acc_shiftRight := Or.inr ⟨"DrumMachine", tw_mem 627 (by decide +kernel) rfl⟩
theorem ml_Mach_213 : Lk "DrumMachine" 213 y_Acc_round := Or.inr ⟨"DrumMachine", tw_mem 631 (by decide +kernel) rfl⟩
theorem ml_Mach_234 : Lk "DrumMachine" 234 y_Mach_branches := Or.inl (tw_mem 635 (by decide +kernel) rfl)
theorem ml_Mach_216 : Lk "DrumMachine" 216 y_Acc_isZero := Or.inr ⟨"DrumMachine", tw_mem 639 (by decide +kernel) rfl⟩
theorem ml_Law_124 : Lk "DrumMachineLaw" 124 y_Law_register := Or.inl (tw_mem 643 (by decide +kernel) rfl)
theorem ml_Law_51 : Lk "DrumMachineLaw" 51 y_Mach_register := Or.inl (tw_mem 646 (by decide +kernel) rfl)
theorem ml_Mach_315 : Lk "DrumMachine" 315 y_Word_value := Or.inr ⟨"DrumMachine", tw_mem 650 (by decide +kernel) rfl⟩
theorem ml_Law_127 : Lk "DrumMachineLaw" 127 y_Law_sign := Or.inl (tw_mem 651 (by decide +kernel) rfl)
theorem ml_Law_55 : Lk "DrumMachineLaw" 55 y_Mach_sign := Or.inl (tw_mem 654 (by decide +kernel) rfl)
theorem ml_Law_134 : Lk "DrumMachineLaw" 134 y_Law_get := Or.inl (tw_mem 658 (by decide +kernel) rfl)
theorem ml_Law_59 : Lk "DrumMachineLaw" 59 y_Mach_get := Or.inl (tw_mem 661 (by decide +kernel) rfl)
theorem kl_Mach_319 : Cond.constantLong "DrumMachine" 319 (i64 (-10000000000)) ∈ tw := tw_mem 665 (by decide +kernel) rfl
theorem ml_Mach_321 : Lk "DrumMachine" 321 y_Word_signed := Or.inr ⟨"DrumMachine", tw_mem 666 (by decide +kernel) rfl⟩
theorem ml_Law_137 : Lk "DrumMachineLaw" 137 y_Law_output := Or.inl (tw_mem 670 (by decide +kernel) rfl)
theorem ml_Law_62 : Lk "DrumMachineLaw" 62 y_Mach_output := Or.inl (tw_mem 673 (by decide +kernel) rfl)
theorem cl_Law_66 : Cond.classLink "DrumMachineLaw" 66 "DrumMachineModel" ∈ tw := tw_mem 677 (by decide +kernel) rfl
theorem ml_Law_68 : Lk "DrumMachineLaw" 68 y_Mod_init := Or.inl (tw_mem 679 (by decide +kernel) rfl)
theorem mo_Mod_1 : Cond.methodLink "DrumMachineModel" 1 Lib.objectInit ∈ tw := tw_mem 682 (by decide +kernel) rfl
theorem ml_Mod_54 : Lk "DrumMachineModel" 54 y_Mod_write := Or.inl (tw_mem 683 (by decide +kernel) rfl)
theorem kl_Mod_67 : Cond.constantLong "DrumMachineModel" 67 (i64 10) ∈ tw := tw_mem 687 (by decide +kernel) rfl
theorem ml_Mod_58 : Lk "DrumMachineModel" 58 y_Mod_forgetPlaces := Or.inl (tw_mem 688 (by decide +kernel) rfl)
theorem fl_Mod_61 : Fl "DrumMachineModel" 61 6 0 := ⟨_, rfl, by decide, tw_mem 692 (by decide +kernel) rfl⟩
theorem fl_Mod_7 : Fl "DrumMachineModel" 7 6 1 := ⟨_, rfl, by decide, tw_mem 693 (by decide +kernel) rfl⟩
theorem fl_Mod_13 : Fl "DrumMachineModel" 13 6 2 := ⟨_, rfl, by decide, tw_mem 694 (by decide +kernel) rfl⟩
theorem fl_Mod_118 : Fl "DrumMachineModel" 118 6 3 := ⟨_, rfl, by decide, tw_mem 695 (by decide +kernel) rfl⟩
theorem fl_Mod_115 : Fl "DrumMachineModel" 115 6 4 := ⟨_, rfl, by decide, tw_mem 696 (by decide +kernel) rfl⟩
theorem fl_Mod_140 : Fl "DrumMachineModel" 140 6 5 := ⟨_, rfl, by decide, tw_mem 697 (by decide +kernel) rfl⟩
theorem fl_Mod_111 : Fl "DrumMachineModel" 111 6 6 := ⟨_, rfl, by decide, tw_mem 698 (by decide +kernel) rfl⟩
theorem fl_Mod_143 : Fl "DrumMachineModel" 143 6 7 := ⟨_, rfl, by decide, tw_mem 699 (by decide +kernel) rfl⟩
theorem fl_Mod_121 : Fl "DrumMachineModel" 121 6 8 := ⟨_, rfl, by decide, tw_mem 700 (by decide +kernel) rfl⟩
theorem fl_Mod_108 : Fl "DrumMachineModel" 108 6 9 := ⟨_, rfl, by decide, tw_mem 701 (by decide +kernel) rfl⟩
theorem fl_Mod_105 : Fl "DrumMachineModel" 105 6 10 := ⟨_, rfl, by decide, tw_mem 702 (by decide +kernel) rfl⟩
theorem fl_Mod_99 : Fl "DrumMachineModel" 99 6 11 := ⟨_, rfl, by decide, tw_mem 703 (by decide +kernel) rfl⟩
theorem fl_Mod_87 : Fl "DrumMachineModel" 87 6 12 := ⟨_, rfl, by decide, tw_mem 704 (by decide +kernel) rfl⟩
theorem fl_Mod_17 : Fl "DrumMachineModel" 17 6 13 := ⟨_, rfl, by decide, tw_mem 705 (by decide +kernel) rfl⟩
theorem fl_Mod_21 : Fl "DrumMachineModel" 21 6 14 := ⟨_, rfl, by decide, tw_mem 706 (by decide +kernel) rfl⟩
theorem fl_Mod_137 : Fl "DrumMachineModel" 137 6 15 := ⟨_, rfl, by decide, tw_mem 707 (by decide +kernel) rfl⟩
theorem fl_Mod_24 : Fl "DrumMachineModel" 24 6 16 := ⟨_, rfl, by decide, tw_mem 708 (by decide +kernel) rfl⟩
theorem fl_Mod_205 : Fl "DrumMachineModel" 205 6 17 := ⟨_, rfl, by decide, tw_mem 709 (by decide +kernel) rfl⟩
theorem fl_Mod_27 : Fl "DrumMachineModel" 27 6 18 := ⟨_, rfl, by decide, tw_mem 710 (by decide +kernel) rfl⟩
theorem fl_Mod_30 : Fl "DrumMachineModel" 30 6 19 := ⟨_, rfl, by decide, tw_mem 711 (by decide +kernel) rfl⟩
theorem fl_Mod_33 : Fl "DrumMachineModel" 33 6 20 := ⟨_, rfl, by decide, tw_mem 712 (by decide +kernel) rfl⟩
theorem fl_Mod_36 : Fl "DrumMachineModel" 36 6 21 := ⟨_, rfl, by decide, tw_mem 713 (by decide +kernel) rfl⟩
theorem fl_Mod_39 : Fl "DrumMachineModel" 39 6 22 := ⟨_, rfl, by decide, tw_mem 714 (by decide +kernel) rfl⟩
theorem fl_Mod_42 : Fl "DrumMachineModel" 42 6 23 := ⟨_, rfl, by decide, tw_mem 715 (by decide +kernel) rfl⟩
theorem fl_Mod_45 : Fl "DrumMachineModel" 45 6 24 := ⟨_, rfl, by decide, tw_mem 716 (by decide +kernel) rfl⟩
theorem fl_Mod_48 : Fl "DrumMachineModel" 48 6 25 := ⟨_, rfl, by decide, tw_mem 717 (by decide +kernel) rfl⟩
theorem fl_Mod_51 : Fl "DrumMachineModel" 51 6 26 := ⟨_, rfl, by decide, tw_mem 718 (by decide +kernel) rfl⟩
theorem fl_Mod_208 : Fl "DrumMachineModel" 208 6 27 := ⟨_, rfl, by decide, tw_mem 719 (by decide +kernel) rfl⟩
theorem ml_Law_77 : Lk "DrumMachineLaw" 77 y_Mod_thrown := Or.inl (tw_mem 778 (by decide +kernel) rfl)
theorem ml_Law_76 : Lk "DrumMachineLaw" 76 y_Mod_word := Or.inl (tw_mem 782 (by decide +kernel) rfl)
theorem ml_Mod_75 : Lk "DrumMachineModel" 75 y_Mod_isAddress := Or.inl (tw_mem 786 (by decide +kernel) rfl)
theorem ml_Mod_79 : Lk "DrumMachineModel" 79 y_Mod_isWord := Or.inl (tw_mem 789 (by decide +kernel) rfl)
theorem kl_Mod_65 : Cond.constantLong "DrumMachineModel" 65 (i64 10000000000) ∈ tw := tw_mem 792 (by decide +kernel) rfl
theorem ml_Law_84 : Lk "DrumMachineLaw" 84 y_Mod_flip := Or.inl (tw_mem 793 (by decide +kernel) rfl)
theorem ml_Mod_83 : Lk "DrumMachineModel" 83 y_Mod_value := Or.inl (tw_mem 797 (by decide +kernel) rfl)
theorem ml_Mod_69 : Lk "DrumMachineModel" 69 y_Mod_digitOf := Or.inl (tw_mem 801 (by decide +kernel) rfl)
theorem kl_Mod_73 : Cond.constantLong "DrumMachineModel" 73 (i64 (-1)) ∈ tw := tw_mem 804 (by decide +kernel) rfl
theorem ml_Law_88 : Lk "DrumMachineLaw" 88 y_Mod_card := Or.inl (tw_mem 805 (by decide +kernel) rfl)
theorem ml_Law_111 : Lk "DrumMachineLaw" 111 y_Mod_start := Or.inl (tw_mem 809 (by decide +kernel) rfl)
theorem ml_Law_114 : Lk "DrumMachineLaw" 114 y_Mod_run := Or.inl (tw_mem 813 (by decide +kernel) rfl)
theorem ml_Mod_195 : Lk "DrumMachineModel" 195 y_Mod_step := Or.inl (tw_mem 817 (by decide +kernel) rfl)
theorem ml_Mod_134 : Lk "DrumMachineModel" 134 y_Mod_stop := Or.inl (tw_mem 821 (by decide +kernel) rfl)
theorem ml_Mod_170 : Lk "DrumMachineModel" 170 y_Mod_access := Or.inl (tw_mem 825 (by decide +kernel) rfl)
theorem kl_Mod_103 : Cond.constantLong "DrumMachineModel" 103 (i64 50) ∈ tw := tw_mem 829 (by decide +kernel) rfl
theorem kl_Mod_166 : Cond.constantLong "DrumMachineModel" 166 (i64 100000000) ∈ tw := tw_mem 830 (by decide +kernel) rfl
theorem kl_Mod_164 : Cond.constantLong "DrumMachineModel" 164 (i64 10000) ∈ tw := tw_mem 831 (by decide +kernel) rfl
theorem ml_Mod_174 : Lk "DrumMachineModel" 174 y_Mod_isOperation := Or.inl (tw_mem 832 (by decide +kernel) rfl)
theorem ml_Mod_90 : Lk "DrumMachineModel" 90 y_Mod_reads := Or.inl (tw_mem 835 (by decide +kernel) rfl)
theorem ml_Mod_93 : Lk "DrumMachineModel" 93 y_Mod_writes := Or.inl (tw_mem 838 (by decide +kernel) rfl)
theorem ml_Mod_96 : Lk "DrumMachineModel" 96 y_Mod_shifts := Or.inl (tw_mem 841 (by decide +kernel) rfl)
theorem ml_Mod_177 : Lk "DrumMachineModel" 177 y_Mod_doRead := Or.inl (tw_mem 844 (by decide +kernel) rfl)
theorem ml_Mod_130 : Lk "DrumMachineModel" 130 y_Mod_lookUp := Or.inl (tw_mem 848 (by decide +kernel) rfl)
theorem ml_Mod_146 : Lk "DrumMachineModel" 146 y_Mod_fixed := Or.inl (tw_mem 852 (by decide +kernel) rfl)
theorem ml_Mod_150 : Lk "DrumMachineModel" 150 y_Mod_divide := Or.inl (tw_mem 855 (by decide +kernel) rfl)
theorem kl_Mod_124 : Cond.constantLong "DrumMachineModel" 124 (i64 1000000000) ∈ tw := tw_mem 859 (by decide +kernel) rfl
theorem ml_Mod_154 : Lk "DrumMachineModel" 154 y_Mod_sumOfDigits := Or.inl (tw_mem 860 (by decide +kernel) rfl)
theorem ml_Mod_158 : Lk "DrumMachineModel" 158 y_Mod_multiply := Or.inl (tw_mem 863 (by decide +kernel) rfl)
theorem ml_Mod_161 : Lk "DrumMachineModel" 161 y_Mod_sum := Or.inl (tw_mem 867 (by decide +kernel) rfl)
theorem ml_Mod_126 : Lk "DrumMachineModel" 126 y_Mod_add := Or.inl (tw_mem 871 (by decide +kernel) rfl)
theorem ml_Mod_181 : Lk "DrumMachineModel" 181 y_Mod_doWrite := Or.inl (tw_mem 875 (by decide +kernel) rfl)
theorem ml_Mod_185 : Lk "DrumMachineModel" 185 y_Mod_branches := Or.inl (tw_mem 879 (by decide +kernel) rfl)
theorem kl_Mod_168 : Cond.constantLong "DrumMachineModel" 168 (i64 8) ∈ tw := tw_mem 883 (by decide +kernel) rfl
theorem ml_Mod_188 : Lk "DrumMachineModel" 188 y_Mod_shiftRight := Or.inl (tw_mem 884 (by decide +kernel) rfl)
theorem ml_Mod_192 : Lk "DrumMachineModel" 192 y_Mod_shiftLeft := Or.inl (tw_mem 888 (by decide +kernel) rfl)
theorem ml_Law_92 : Lk "DrumMachineLaw" 92 y_Mod_line := Or.inl (tw_mem 892 (by decide +kernel) rfl)
theorem ml_Mod_199 : Lk "DrumMachineModel" 199 y_Mod_isPart := Or.inl (tw_mem 896 (by decide +kernel) rfl)
theorem ml_Mod_202 : Lk "DrumMachineModel" 202 y_Mod_fail := Or.inl (tw_mem 899 (by decide +kernel) rfl)
theorem ml_Law_96 : Lk "DrumMachineLaw" 96 y_Mod_reserve := Or.inl (tw_mem 903 (by decide +kernel) rfl)
theorem ml_Law_100 : Lk "DrumMachineLaw" 100 y_Mod_clear := Or.inl (tw_mem 907 (by decide +kernel) rfl)
theorem ml_Law_104 : Lk "DrumMachineLaw" 104 y_Mod_assemble := Or.inl (tw_mem 911 (by decide +kernel) rfl)
theorem ml_Mod_219 : Lk "DrumMachineModel" 219 y_Mod_hold := Or.inl (tw_mem 915 (by decide +kernel) rfl)
theorem ml_Mod_222 : Lk "DrumMachineModel" 222 y_Mod_settle := Or.inl (tw_mem 919 (by decide +kernel) rfl)
theorem ml_Mod_211 : Lk "DrumMachineModel" 211 y_Mod_take := Or.inl (tw_mem 923 (by decide +kernel) rfl)
theorem ml_Mod_215 : Lk "DrumMachineModel" 215 y_Mod_placeOf := Or.inl (tw_mem 927 (by decide +kernel) rfl)
theorem ml_Law_108 : Lk "DrumMachineLaw" 108 y_Mod_place := Or.inl (tw_mem 931 (by decide +kernel) rfl)
theorem ml_Law_118 : Lk "DrumMachineLaw" 118 y_Mod_fault := Or.inl (tw_mem 935 (by decide +kernel) rfl)
theorem ml_Law_123 : Lk "DrumMachineLaw" 123 y_Mod_time := Or.inl (tw_mem 939 (by decide +kernel) rfl)
theorem ml_Law_126 : Lk "DrumMachineLaw" 126 y_Mod_register := Or.inl (tw_mem 943 (by decide +kernel) rfl)
theorem ml_Law_129 : Lk "DrumMachineLaw" 129 y_Mod_sign := Or.inl (tw_mem 947 (by decide +kernel) rfl)
theorem ml_Law_133 : Lk "DrumMachineLaw" 133 y_Mod_next := Or.inl (tw_mem 951 (by decide +kernel) rfl)
theorem ml_Law_136 : Lk "DrumMachineLaw" 136 y_Mod_get := Or.inl (tw_mem 955 (by decide +kernel) rfl)
theorem kl_Mod_226 : Cond.constantLong "DrumMachineModel" 226 (i64 (-10000000000)) ∈ tw := tw_mem 959 (by decide +kernel) rfl
theorem ml_Law_139 : Lk "DrumMachineLaw" 139 y_Mod_output := Or.inl (tw_mem 960 (by decide +kernel) rfl)
theorem ml_Law_143 : Lk "DrumMachineLaw" 143 y_Mod_outputs := Or.inl (tw_mem 964 (by decide +kernel) rfl)
theorem kl_Law_69 : Cond.constantLong "DrumMachineLaw" 69 (i64 4294967295) ∈ tw := tw_mem 968 (by decide +kernel) rfl
theorem ft_Mach_0 : Ft 0 0 (.object "DrumMachine$Drum") true := ⟨_, rfl, by decide, by decide +kernel, rfl, rfl⟩
theorem ft_Mach_1 : Ft 0 1 (.object "DrumMachine$Accumulator") true := ⟨_, rfl, by decide, by decide +kernel, rfl, rfl⟩
theorem ft_Mach_2 : Ft 0 2 (.object "DrumMachine$Word") true := ⟨_, rfl, by decide, by decide +kernel, rfl, rfl⟩
theorem ft_Mach_3 : Ft 0 3 (.object "DrumMachine$Word") true := ⟨_, rfl, by decide, by decide +kernel, rfl, rfl⟩
theorem ft_Mach_4 : Ft 0 4 (.object "DrumMachine$Word") true := ⟨_, rfl, by decide, by decide +kernel, rfl, rfl⟩
theorem ft_Mach_5 : Ft 0 5 (.object "DrumMachine$Assembler") true := ⟨_, rfl, by decide, by decide +kernel, rfl, rfl⟩
theorem ft_Mach_6 : Ft 0 6 (.array (.object "DrumMachine$Word")) true := ⟨_, rfl, by decide, by decide +kernel, rfl, rfl⟩
theorem ft_Mach_7 : Ft 0 7 .int false := ⟨_, rfl, by decide, by decide +kernel, rfl, rfl⟩
theorem ft_Mach_8 : Ft 0 8 .int false := ⟨_, rfl, by decide, by decide +kernel, rfl, rfl⟩
theorem ft_Mach_9 : Ft 0 9 (.array (.object "DrumMachine$Word")) true := ⟨_, rfl, by decide, by decide +kernel, rfl, rfl⟩
theorem ft_Mach_10 : Ft 0 10 .int false := ⟨_, rfl, by decide, by decide +kernel, rfl, rfl⟩
theorem ft_Mach_11 : Ft 0 11 .int false := ⟨_, rfl, by decide, by decide +kernel, rfl, rfl⟩
theorem ft_Mach_12 : Ft 0 12 .int false := ⟨_, rfl, by decide, by decide +kernel, rfl, rfl⟩
theorem ft_Drum_0 : Ft 1 0 (.array (.array .byte)) true := ⟨_, rfl, by decide, by decide +kernel, rfl, rfl⟩
theorem ft_Drum_1 : Ft 1 1 .long false := ⟨_, rfl, by decide, by decide +kernel, rfl, rfl⟩
theorem ft_Acc_0 : Ft 2 0 (.array .int) true := ⟨_, rfl, by decide, by decide +kernel, rfl, rfl⟩
theorem ft_Acc_1 : Ft 2 1 .boolean false := ⟨_, rfl, by decide, by decide +kernel, rfl, rfl⟩
theorem ft_Acc_2 : Ft 2 2 .boolean false := ⟨_, rfl, by decide, by decide +kernel, rfl, rfl⟩
theorem ft_Acc_3 : Ft 2 3 (.object "DrumMachine$Word") true := ⟨_, rfl, by decide, by decide +kernel, rfl, rfl⟩
theorem ft_Acc_4 : Ft 2 4 (.object "DrumMachine$Word") true := ⟨_, rfl, by decide, by decide +kernel, rfl, rfl⟩
theorem ft_Word_0 : Ft 3 0 (.array .int) true := ⟨_, rfl, by decide, by decide +kernel, rfl, rfl⟩
theorem ft_Word_1 : Ft 3 1 .boolean false := ⟨_, rfl, by decide, by decide +kernel, rfl, rfl⟩
theorem ft_Asm_0 : Ft 4 0 (.array (.object "DrumMachine$Line")) true := ⟨_, rfl, by decide, by decide +kernel, rfl, rfl⟩
theorem ft_Asm_1 : Ft 4 1 .int false := ⟨_, rfl, by decide, by decide +kernel, rfl, rfl⟩
theorem ft_Asm_2 : Ft 4 2 (.array .boolean) true := ⟨_, rfl, by decide, by decide +kernel, rfl, rfl⟩
theorem ft_Asm_3 : Ft 4 3 (.array .boolean) true := ⟨_, rfl, by decide, by decide +kernel, rfl, rfl⟩
theorem ft_Asm_4 : Ft 4 4 (.array .int) true := ⟨_, rfl, by decide, by decide +kernel, rfl, rfl⟩
theorem ft_Asm_5 : Ft 4 5 .boolean false := ⟨_, rfl, by decide, by decide +kernel, rfl, rfl⟩
theorem ft_Asm_6 : Ft 4 6 .boolean false := ⟨_, rfl, by decide, by decide +kernel, rfl, rfl⟩
theorem ft_Line_0 : Ft 5 0 .int true := ⟨_, rfl, by decide, by decide +kernel, rfl, rfl⟩
theorem ft_Line_1 : Ft 5 1 .int true := ⟨_, rfl, by decide, by decide +kernel, rfl, rfl⟩
theorem ft_Line_2 : Ft 5 2 .int true := ⟨_, rfl, by decide, by decide +kernel, rfl, rfl⟩
theorem ft_Line_3 : Ft 5 3 .int true := ⟨_, rfl, by decide, by decide +kernel, rfl, rfl⟩
theorem ft_Line_4 : Ft 5 4 .int false := ⟨_, rfl, by decide, by decide +kernel, rfl, rfl⟩
theorem ft_Line_5 : Ft 5 5 .int false := ⟨_, rfl, by decide, by decide +kernel, rfl, rfl⟩
theorem ft_Line_6 : Ft 5 6 .int false := ⟨_, rfl, by decide, by decide +kernel, rfl, rfl⟩
theorem ft_Mod_0 : Ft 6 0 .int false := ⟨_, rfl, by decide, by decide +kernel, rfl, rfl⟩
theorem ft_Mod_1 : Ft 6 1 (.array .int) true := ⟨_, rfl, by decide, by decide +kernel, rfl, rfl⟩
theorem ft_Mod_2 : Ft 6 2 (.array .boolean) true := ⟨_, rfl, by decide, by decide +kernel, rfl, rfl⟩
theorem ft_Mod_3 : Ft 6 3 .long false := ⟨_, rfl, by decide, by decide +kernel, rfl, rfl⟩
theorem ft_Mod_4 : Ft 6 4 .long false := ⟨_, rfl, by decide, by decide +kernel, rfl, rfl⟩
theorem ft_Mod_5 : Ft 6 5 .long false := ⟨_, rfl, by decide, by decide +kernel, rfl, rfl⟩
theorem ft_Mod_6 : Ft 6 6 .boolean false := ⟨_, rfl, by decide, by decide +kernel, rfl, rfl⟩
theorem ft_Mod_7 : Ft 6 7 .boolean false := ⟨_, rfl, by decide, by decide +kernel, rfl, rfl⟩
theorem ft_Mod_8 : Ft 6 8 .boolean false := ⟨_, rfl, by decide, by decide +kernel, rfl, rfl⟩
theorem ft_Mod_9 : Ft 6 9 .int false := ⟨_, rfl, by decide, by decide +kernel, rfl, rfl⟩
theorem ft_Mod_10 : Ft 6 10 .int false := ⟨_, rfl, by decide, by decide +kernel, rfl, rfl⟩
theorem ft_Mod_11 : Ft 6 11 .long false := ⟨_, rfl, by decide, by decide +kernel, rfl, rfl⟩
theorem ft_Mod_12 : Ft 6 12 .int false := ⟨_, rfl, by decide, by decide +kernel, rfl, rfl⟩
theorem ft_Mod_13 : Ft 6 13 (.array .long) true := ⟨_, rfl, by decide, by decide +kernel, rfl, rfl⟩
theorem ft_Mod_14 : Ft 6 14 (.array .boolean) true := ⟨_, rfl, by decide, by decide +kernel, rfl, rfl⟩
theorem ft_Mod_15 : Ft 6 15 .int false := ⟨_, rfl, by decide, by decide +kernel, rfl, rfl⟩
theorem ft_Mod_16 : Ft 6 16 (.array .long) true := ⟨_, rfl, by decide, by decide +kernel, rfl, rfl⟩
theorem ft_Mod_17 : Ft 6 17 .int false := ⟨_, rfl, by decide, by decide +kernel, rfl, rfl⟩
theorem ft_Mod_18 : Ft 6 18 (.array .int) true := ⟨_, rfl, by decide, by decide +kernel, rfl, rfl⟩
theorem ft_Mod_19 : Ft 6 19 (.array .int) true := ⟨_, rfl, by decide, by decide +kernel, rfl, rfl⟩
theorem ft_Mod_20 : Ft 6 20 (.array .int) true := ⟨_, rfl, by decide, by decide +kernel, rfl, rfl⟩
theorem ft_Mod_21 : Ft 6 21 (.array .int) true := ⟨_, rfl, by decide, by decide +kernel, rfl, rfl⟩
theorem ft_Mod_22 : Ft 6 22 (.array .boolean) true := ⟨_, rfl, by decide, by decide +kernel, rfl, rfl⟩
theorem ft_Mod_23 : Ft 6 23 (.array .int) true := ⟨_, rfl, by decide, by decide +kernel, rfl, rfl⟩
theorem ft_Mod_24 : Ft 6 24 (.array .boolean) true := ⟨_, rfl, by decide, by decide +kernel, rfl, rfl⟩
theorem ft_Mod_25 : Ft 6 25 (.array .int) true := ⟨_, rfl, by decide, by decide +kernel, rfl, rfl⟩
theorem ft_Mod_26 : Ft 6 26 (.array .long) true := ⟨_, rfl, by decide, by decide +kernel, rfl, rfl⟩
theorem ft_Mod_27 : Ft 6 27 .boolean false := ⟨_, rfl, by decide, by decide +kernel, rfl, rfl⟩
theorem ex_iob : Ex 100 102 "java/lang/IndexOutOfBoundsException" := ⟨by decide +kernel, by decide +kernel, by decide +kernel, by decide +kernel, by decide +kernel⟩
theorem ex_iae : Ex 103 105 "java/lang/IllegalArgumentException" := ⟨by decide +kernel, by decide +kernel, by decide +kernel, by decide +kernel, by decide +kernel⟩
theorem ex_ise : Ex 244 246 "java/lang/IllegalStateException" := ⟨by decide +kernel, by decide +kernel, by decide +kernel, by decide +kernel, by decide +kernel⟩
theorem ex_uoe : Ex 289 291 "java/lang/UnsupportedOperationException" := ⟨by decide +kernel, by decide +kernel, by decide +kernel, by decide +kernel, by decide +kernel⟩
