/-! the twin: statics, small methods -/
def mRd (z : Int) : Bool := decide (z = 10 ∨ z = 11 ∨ z = 14 ∨ z = 15 ∨ z = 16 ∨ z = 19 ∨ z = 60 ∨ z = 61 ∨ (65 ≤ z ∧ z ≤ 67) ∨ z = 69 ∨ z = 71 ∨ z = 84)
theorem c_Mod_reads (G : Gt) {ad : Ix → Nat} {w : Wt} {z : Int} (hz : -2147483648 ≤ z ∧ z < 2147483648) : Mt G y_Mod_reads w_Mod_reads 0 0 0 [.int (i32 z)] ad w (ex (some (.int (i32 (b2i (mRd z))))) ad w) noT := by
  refine Mt.to [some (.int (i32 z))] (fun K hk hR hin => ?_)
  refine r_iload_n (i := 0) hk (dk_at D_Mod_reads 0 rfl) rfl rfl ?_
  refine r_bipush hk (dk_at D_Mod_reads 1 rfl) (by decide) ?_
  refine r_icmp_eq (t := 78) hk (dk_at D_Mod_reads 2 rfl) (by decide) (by omega) (by omega) (fun c_3 => ?_) (fun c_3 => ?_)
  · have e : mRd z = true := decide_eq_true (by omega)
    rw [e]
    refine r_iconst hk (dk_at D_Mod_reads 39 rfl) ?_
    refine r_goto (t := 83) hk (dk_at D_Mod_reads 40 rfl) (by decide) ?_
    first | exact r_bret (b := true) hk (dk_at D_Mod_reads 42 rfl) ex.rf | exact r_bret (b := false) hk (dk_at D_Mod_reads 42 rfl) ex.rf
  · refine r_iload_n (i := 0) hk (dk_at D_Mod_reads 3 rfl) rfl rfl ?_
    refine r_bipush hk (dk_at D_Mod_reads 4 rfl) (by decide) ?_
    refine r_icmp_eq (t := 78) hk (dk_at D_Mod_reads 5 rfl) (by decide) (by omega) (by omega) (fun c_9 => ?_) (fun c_9 => ?_)
    · have e : mRd z = true := decide_eq_true (by omega)
      rw [e]
      refine r_iconst hk (dk_at D_Mod_reads 39 rfl) ?_
      refine r_goto (t := 83) hk (dk_at D_Mod_reads 40 rfl) (by decide) ?_
      first | exact r_bret (b := true) hk (dk_at D_Mod_reads 42 rfl) ex.rf | exact r_bret (b := false) hk (dk_at D_Mod_reads 42 rfl) ex.rf
    · refine r_iload_n (i := 0) hk (dk_at D_Mod_reads 6 rfl) rfl rfl ?_
      refine r_bipush hk (dk_at D_Mod_reads 7 rfl) (by decide) ?_
      refine r_icmp_eq (t := 78) hk (dk_at D_Mod_reads 8 rfl) (by decide) (by omega) (by omega) (fun c_15 => ?_) (fun c_15 => ?_)
      · have e : mRd z = true := decide_eq_true (by omega)
        rw [e]
        refine r_iconst hk (dk_at D_Mod_reads 39 rfl) ?_
        refine r_goto (t := 83) hk (dk_at D_Mod_reads 40 rfl) (by decide) ?_
        first | exact r_bret (b := true) hk (dk_at D_Mod_reads 42 rfl) ex.rf | exact r_bret (b := false) hk (dk_at D_Mod_reads 42 rfl) ex.rf
      · refine r_iload_n (i := 0) hk (dk_at D_Mod_reads 9 rfl) rfl rfl ?_
        refine r_bipush hk (dk_at D_Mod_reads 10 rfl) (by decide) ?_
        refine r_icmp_eq (t := 78) hk (dk_at D_Mod_reads 11 rfl) (by decide) (by omega) (by omega) (fun c_21 => ?_) (fun c_21 => ?_)
        · have e : mRd z = true := decide_eq_true (by omega)
          rw [e]
          refine r_iconst hk (dk_at D_Mod_reads 39 rfl) ?_
          refine r_goto (t := 83) hk (dk_at D_Mod_reads 40 rfl) (by decide) ?_
          first | exact r_bret (b := true) hk (dk_at D_Mod_reads 42 rfl) ex.rf | exact r_bret (b := false) hk (dk_at D_Mod_reads 42 rfl) ex.rf
        · refine r_iload_n (i := 0) hk (dk_at D_Mod_reads 12 rfl) rfl rfl ?_
          refine r_bipush hk (dk_at D_Mod_reads 13 rfl) (by decide) ?_
          refine r_icmp_eq (t := 78) hk (dk_at D_Mod_reads 14 rfl) (by decide) (by omega) (by omega) (fun c_27 => ?_) (fun c_27 => ?_)
          · have e : mRd z = true := decide_eq_true (by omega)
            rw [e]
            refine r_iconst hk (dk_at D_Mod_reads 39 rfl) ?_
            refine r_goto (t := 83) hk (dk_at D_Mod_reads 40 rfl) (by decide) ?_
            first | exact r_bret (b := true) hk (dk_at D_Mod_reads 42 rfl) ex.rf | exact r_bret (b := false) hk (dk_at D_Mod_reads 42 rfl) ex.rf
          · refine r_iload_n (i := 0) hk (dk_at D_Mod_reads 15 rfl) rfl rfl ?_
            refine r_bipush hk (dk_at D_Mod_reads 16 rfl) (by decide) ?_
            refine r_icmp_eq (t := 78) hk (dk_at D_Mod_reads 17 rfl) (by decide) (by omega) (by omega) (fun c_33 => ?_) (fun c_33 => ?_)
            · have e : mRd z = true := decide_eq_true (by omega)
              rw [e]
              refine r_iconst hk (dk_at D_Mod_reads 39 rfl) ?_
              refine r_goto (t := 83) hk (dk_at D_Mod_reads 40 rfl) (by decide) ?_
              first | exact r_bret (b := true) hk (dk_at D_Mod_reads 42 rfl) ex.rf | exact r_bret (b := false) hk (dk_at D_Mod_reads 42 rfl) ex.rf
            · refine r_iload_n (i := 0) hk (dk_at D_Mod_reads 18 rfl) rfl rfl ?_
              refine r_bipush hk (dk_at D_Mod_reads 19 rfl) (by decide) ?_
              refine r_icmp_eq (t := 78) hk (dk_at D_Mod_reads 20 rfl) (by decide) (by omega) (by omega) (fun c_39 => ?_) (fun c_39 => ?_)
              · have e : mRd z = true := decide_eq_true (by omega)
                rw [e]
                refine r_iconst hk (dk_at D_Mod_reads 39 rfl) ?_
                refine r_goto (t := 83) hk (dk_at D_Mod_reads 40 rfl) (by decide) ?_
                first | exact r_bret (b := true) hk (dk_at D_Mod_reads 42 rfl) ex.rf | exact r_bret (b := false) hk (dk_at D_Mod_reads 42 rfl) ex.rf
              · refine r_iload_n (i := 0) hk (dk_at D_Mod_reads 21 rfl) rfl rfl ?_
                refine r_bipush hk (dk_at D_Mod_reads 22 rfl) (by decide) ?_
                refine r_icmp_eq (t := 78) hk (dk_at D_Mod_reads 23 rfl) (by decide) (by omega) (by omega) (fun c_45 => ?_) (fun c_45 => ?_)
                · have e : mRd z = true := decide_eq_true (by omega)
                  rw [e]
                  refine r_iconst hk (dk_at D_Mod_reads 39 rfl) ?_
                  refine r_goto (t := 83) hk (dk_at D_Mod_reads 40 rfl) (by decide) ?_
                  first | exact r_bret (b := true) hk (dk_at D_Mod_reads 42 rfl) ex.rf | exact r_bret (b := false) hk (dk_at D_Mod_reads 42 rfl) ex.rf
                · refine r_iload_n (i := 0) hk (dk_at D_Mod_reads 24 rfl) rfl rfl ?_
                  refine r_bipush hk (dk_at D_Mod_reads 25 rfl) (by decide) ?_
                  refine r_icmp_lt (t := 60) hk (dk_at D_Mod_reads 26 rfl) (by decide) (by omega) (by omega) (fun c_51 => ?_) (fun c_51 => ?_)
                  · refine r_iload_n (i := 0) hk (dk_at D_Mod_reads 30 rfl) rfl rfl ?_
                    refine r_bipush hk (dk_at D_Mod_reads 31 rfl) (by decide) ?_
                    refine r_icmp_eq (t := 78) hk (dk_at D_Mod_reads 32 rfl) (by decide) (by omega) (by omega) (fun c_63 => ?_) (fun c_63 => ?_)
                    · have e : mRd z = true := decide_eq_true (by omega)
                      rw [e]
                      refine r_iconst hk (dk_at D_Mod_reads 39 rfl) ?_
                      refine r_goto (t := 83) hk (dk_at D_Mod_reads 40 rfl) (by decide) ?_
                      first | exact r_bret (b := true) hk (dk_at D_Mod_reads 42 rfl) ex.rf | exact r_bret (b := false) hk (dk_at D_Mod_reads 42 rfl) ex.rf
                    · refine r_iload_n (i := 0) hk (dk_at D_Mod_reads 33 rfl) rfl rfl ?_
                      refine r_bipush hk (dk_at D_Mod_reads 34 rfl) (by decide) ?_
                      refine r_icmp_eq (t := 78) hk (dk_at D_Mod_reads 35 rfl) (by decide) (by omega) (by omega) (fun c_69 => ?_) (fun c_69 => ?_)
                      · have e : mRd z = true := decide_eq_true (by omega)
                        rw [e]
                        refine r_iconst hk (dk_at D_Mod_reads 39 rfl) ?_
                        refine r_goto (t := 83) hk (dk_at D_Mod_reads 40 rfl) (by decide) ?_
                        first | exact r_bret (b := true) hk (dk_at D_Mod_reads 42 rfl) ex.rf | exact r_bret (b := false) hk (dk_at D_Mod_reads 42 rfl) ex.rf
                      · refine r_iload_n (i := 0) hk (dk_at D_Mod_reads 36 rfl) rfl rfl ?_
                        refine r_bipush hk (dk_at D_Mod_reads 37 rfl) (by decide) ?_
                        refine r_icmp_ne (t := 82) hk (dk_at D_Mod_reads 38 rfl) (by decide) (by omega) (by omega) (fun c_75 => ?_) (fun c_75 => ?_)
                        · have e : mRd z = false := decide_eq_false (by omega)
                          rw [e]
                          refine r_iconst hk (dk_at D_Mod_reads 41 rfl) ?_
                          first | exact r_bret (b := true) hk (dk_at D_Mod_reads 42 rfl) ex.rf | exact r_bret (b := false) hk (dk_at D_Mod_reads 42 rfl) ex.rf
                        · have e : mRd z = true := decide_eq_true (by omega)
                          rw [e]
                          refine r_iconst hk (dk_at D_Mod_reads 39 rfl) ?_
                          refine r_goto (t := 83) hk (dk_at D_Mod_reads 40 rfl) (by decide) ?_
                          first | exact r_bret (b := true) hk (dk_at D_Mod_reads 42 rfl) ex.rf | exact r_bret (b := false) hk (dk_at D_Mod_reads 42 rfl) ex.rf
                  · refine r_iload_n (i := 0) hk (dk_at D_Mod_reads 27 rfl) rfl rfl ?_
                    refine r_bipush hk (dk_at D_Mod_reads 28 rfl) (by decide) ?_
                    refine r_icmp_le (t := 78) hk (dk_at D_Mod_reads 29 rfl) (by decide) (by omega) (by omega) (fun c_57 => ?_) (fun c_57 => ?_)
                    · have e : mRd z = true := decide_eq_true (by omega)
                      rw [e]
                      refine r_iconst hk (dk_at D_Mod_reads 39 rfl) ?_
                      refine r_goto (t := 83) hk (dk_at D_Mod_reads 40 rfl) (by decide) ?_
                      first | exact r_bret (b := true) hk (dk_at D_Mod_reads 42 rfl) ex.rf | exact r_bret (b := false) hk (dk_at D_Mod_reads 42 rfl) ex.rf
                    · refine r_iload_n (i := 0) hk (dk_at D_Mod_reads 30 rfl) rfl rfl ?_
                      refine r_bipush hk (dk_at D_Mod_reads 31 rfl) (by decide) ?_
                      refine r_icmp_eq (t := 78) hk (dk_at D_Mod_reads 32 rfl) (by decide) (by omega) (by omega) (fun c_63 => ?_) (fun c_63 => ?_)
                      · have e : mRd z = true := decide_eq_true (by omega)
                        rw [e]
                        refine r_iconst hk (dk_at D_Mod_reads 39 rfl) ?_
                        refine r_goto (t := 83) hk (dk_at D_Mod_reads 40 rfl) (by decide) ?_
                        first | exact r_bret (b := true) hk (dk_at D_Mod_reads 42 rfl) ex.rf | exact r_bret (b := false) hk (dk_at D_Mod_reads 42 rfl) ex.rf
                      · refine r_iload_n (i := 0) hk (dk_at D_Mod_reads 33 rfl) rfl rfl ?_
                        refine r_bipush hk (dk_at D_Mod_reads 34 rfl) (by decide) ?_
                        refine r_icmp_eq (t := 78) hk (dk_at D_Mod_reads 35 rfl) (by decide) (by omega) (by omega) (fun c_69 => ?_) (fun c_69 => ?_)
                        · have e : mRd z = true := decide_eq_true (by omega)
                          rw [e]
                          refine r_iconst hk (dk_at D_Mod_reads 39 rfl) ?_
                          refine r_goto (t := 83) hk (dk_at D_Mod_reads 40 rfl) (by decide) ?_
                          first | exact r_bret (b := true) hk (dk_at D_Mod_reads 42 rfl) ex.rf | exact r_bret (b := false) hk (dk_at D_Mod_reads 42 rfl) ex.rf
                        · refine r_iload_n (i := 0) hk (dk_at D_Mod_reads 36 rfl) rfl rfl ?_
                          refine r_bipush hk (dk_at D_Mod_reads 37 rfl) (by decide) ?_
                          refine r_icmp_ne (t := 82) hk (dk_at D_Mod_reads 38 rfl) (by decide) (by omega) (by omega) (fun c_75 => ?_) (fun c_75 => ?_)
                          · have e : mRd z = false := decide_eq_false (by omega)
                            rw [e]
                            refine r_iconst hk (dk_at D_Mod_reads 41 rfl) ?_
                            first | exact r_bret (b := true) hk (dk_at D_Mod_reads 42 rfl) ex.rf | exact r_bret (b := false) hk (dk_at D_Mod_reads 42 rfl) ex.rf
                          · have e : mRd z = true := decide_eq_true (by omega)
                            rw [e]
                            refine r_iconst hk (dk_at D_Mod_reads 39 rfl) ?_
                            refine r_goto (t := 83) hk (dk_at D_Mod_reads 40 rfl) (by decide) ?_
                            first | exact r_bret (b := true) hk (dk_at D_Mod_reads 42 rfl) ex.rf | exact r_bret (b := false) hk (dk_at D_Mod_reads 42 rfl) ex.rf
def mWr (z : Int) : Bool := decide ((20 ≤ z ∧ z ≤ 22) ∨ z = 24 ∨ z = 70)
theorem c_Mod_writes (G : Gt) {ad : Ix → Nat} {w : Wt} {z : Int} (hz : -2147483648 ≤ z ∧ z < 2147483648) : Mt G y_Mod_writes w_Mod_writes 0 0 0 [.int (i32 z)] ad w (ex (some (.int (i32 (b2i (mWr z))))) ad w) noT := by
  refine Mt.to [some (.int (i32 z))] (fun K hk hR hin => ?_)
  refine r_iload_n (i := 0) hk (dk_at D_Mod_writes 0 rfl) rfl rfl ?_
  refine r_bipush hk (dk_at D_Mod_writes 1 rfl) (by decide) ?_
  refine r_icmp_lt (t := 12) hk (dk_at D_Mod_writes 2 rfl) (by decide) (by omega) (by omega) (fun c_3 => ?_) (fun c_3 => ?_)
  · refine r_iload_n (i := 0) hk (dk_at D_Mod_writes 6 rfl) rfl rfl ?_
    refine r_bipush hk (dk_at D_Mod_writes 7 rfl) (by decide) ?_
    refine r_icmp_eq (t := 24) hk (dk_at D_Mod_writes 8 rfl) (by decide) (by omega) (by omega) (fun c_15 => ?_) (fun c_15 => ?_)
    · have e : mWr z = true := decide_eq_true (by omega)
      rw [e]
      refine r_iconst hk (dk_at D_Mod_writes 12 rfl) ?_
      refine r_goto (t := 29) hk (dk_at D_Mod_writes 13 rfl) (by decide) ?_
      first | exact r_bret (b := true) hk (dk_at D_Mod_writes 15 rfl) ex.rf | exact r_bret (b := false) hk (dk_at D_Mod_writes 15 rfl) ex.rf
    · refine r_iload_n (i := 0) hk (dk_at D_Mod_writes 9 rfl) rfl rfl ?_
      refine r_bipush hk (dk_at D_Mod_writes 10 rfl) (by decide) ?_
      refine r_icmp_ne (t := 28) hk (dk_at D_Mod_writes 11 rfl) (by decide) (by omega) (by omega) (fun c_21 => ?_) (fun c_21 => ?_)
      · have e : mWr z = false := decide_eq_false (by omega)
        rw [e]
        refine r_iconst hk (dk_at D_Mod_writes 14 rfl) ?_
        first | exact r_bret (b := true) hk (dk_at D_Mod_writes 15 rfl) ex.rf | exact r_bret (b := false) hk (dk_at D_Mod_writes 15 rfl) ex.rf
      · have e : mWr z = true := decide_eq_true (by omega)
        rw [e]
        refine r_iconst hk (dk_at D_Mod_writes 12 rfl) ?_
        refine r_goto (t := 29) hk (dk_at D_Mod_writes 13 rfl) (by decide) ?_
        first | exact r_bret (b := true) hk (dk_at D_Mod_writes 15 rfl) ex.rf | exact r_bret (b := false) hk (dk_at D_Mod_writes 15 rfl) ex.rf
  · refine r_iload_n (i := 0) hk (dk_at D_Mod_writes 3 rfl) rfl rfl ?_
    refine r_bipush hk (dk_at D_Mod_writes 4 rfl) (by decide) ?_
    refine r_icmp_le (t := 24) hk (dk_at D_Mod_writes 5 rfl) (by decide) (by omega) (by omega) (fun c_9 => ?_) (fun c_9 => ?_)
    · have e : mWr z = true := decide_eq_true (by omega)
      rw [e]
      refine r_iconst hk (dk_at D_Mod_writes 12 rfl) ?_
      refine r_goto (t := 29) hk (dk_at D_Mod_writes 13 rfl) (by decide) ?_
      first | exact r_bret (b := true) hk (dk_at D_Mod_writes 15 rfl) ex.rf | exact r_bret (b := false) hk (dk_at D_Mod_writes 15 rfl) ex.rf
    · refine r_iload_n (i := 0) hk (dk_at D_Mod_writes 6 rfl) rfl rfl ?_
      refine r_bipush hk (dk_at D_Mod_writes 7 rfl) (by decide) ?_
      refine r_icmp_eq (t := 24) hk (dk_at D_Mod_writes 8 rfl) (by decide) (by omega) (by omega) (fun c_15 => ?_) (fun c_15 => ?_)
      · have e : mWr z = true := decide_eq_true (by omega)
        rw [e]
        refine r_iconst hk (dk_at D_Mod_writes 12 rfl) ?_
        refine r_goto (t := 29) hk (dk_at D_Mod_writes 13 rfl) (by decide) ?_
        first | exact r_bret (b := true) hk (dk_at D_Mod_writes 15 rfl) ex.rf | exact r_bret (b := false) hk (dk_at D_Mod_writes 15 rfl) ex.rf
      · refine r_iload_n (i := 0) hk (dk_at D_Mod_writes 9 rfl) rfl rfl ?_
        refine r_bipush hk (dk_at D_Mod_writes 10 rfl) (by decide) ?_
        refine r_icmp_ne (t := 28) hk (dk_at D_Mod_writes 11 rfl) (by decide) (by omega) (by omega) (fun c_21 => ?_) (fun c_21 => ?_)
        · have e : mWr z = false := decide_eq_false (by omega)
          rw [e]
          refine r_iconst hk (dk_at D_Mod_writes 14 rfl) ?_
          first | exact r_bret (b := true) hk (dk_at D_Mod_writes 15 rfl) ex.rf | exact r_bret (b := false) hk (dk_at D_Mod_writes 15 rfl) ex.rf
        · have e : mWr z = true := decide_eq_true (by omega)
          rw [e]
          refine r_iconst hk (dk_at D_Mod_writes 12 rfl) ?_
          refine r_goto (t := 29) hk (dk_at D_Mod_writes 13 rfl) (by decide) ?_
          first | exact r_bret (b := true) hk (dk_at D_Mod_writes 15 rfl) ex.rf | exact r_bret (b := false) hk (dk_at D_Mod_writes 15 rfl) ex.rf
def mSh (z : Int) : Bool := decide (z = 30 ∨ z = 31 ∨ z = 35)
theorem c_Mod_shifts (G : Gt) {ad : Ix → Nat} {w : Wt} {z : Int} (hz : -2147483648 ≤ z ∧ z < 2147483648) : Mt G y_Mod_shifts w_Mod_shifts 0 0 0 [.int (i32 z)] ad w (ex (some (.int (i32 (b2i (mSh z))))) ad w) noT := by
  refine Mt.to [some (.int (i32 z))] (fun K hk hR hin => ?_)
  refine r_iload_n (i := 0) hk (dk_at D_Mod_shifts 0 rfl) rfl rfl ?_
  refine r_bipush hk (dk_at D_Mod_shifts 1 rfl) (by decide) ?_
  refine r_icmp_eq (t := 18) hk (dk_at D_Mod_shifts 2 rfl) (by decide) (by omega) (by omega) (fun c_3 => ?_) (fun c_3 => ?_)
  · have e : mSh z = true := decide_eq_true (by omega)
    rw [e]
    refine r_iconst hk (dk_at D_Mod_shifts 9 rfl) ?_
    refine r_goto (t := 23) hk (dk_at D_Mod_shifts 10 rfl) (by decide) ?_
    first | exact r_bret (b := true) hk (dk_at D_Mod_shifts 12 rfl) ex.rf | exact r_bret (b := false) hk (dk_at D_Mod_shifts 12 rfl) ex.rf
  · refine r_iload_n (i := 0) hk (dk_at D_Mod_shifts 3 rfl) rfl rfl ?_
    refine r_bipush hk (dk_at D_Mod_shifts 4 rfl) (by decide) ?_
    refine r_icmp_eq (t := 18) hk (dk_at D_Mod_shifts 5 rfl) (by decide) (by omega) (by omega) (fun c_9 => ?_) (fun c_9 => ?_)
    · have e : mSh z = true := decide_eq_true (by omega)
      rw [e]
      refine r_iconst hk (dk_at D_Mod_shifts 9 rfl) ?_
      refine r_goto (t := 23) hk (dk_at D_Mod_shifts 10 rfl) (by decide) ?_
      first | exact r_bret (b := true) hk (dk_at D_Mod_shifts 12 rfl) ex.rf | exact r_bret (b := false) hk (dk_at D_Mod_shifts 12 rfl) ex.rf
    · refine r_iload_n (i := 0) hk (dk_at D_Mod_shifts 6 rfl) rfl rfl ?_
      refine r_bipush hk (dk_at D_Mod_shifts 7 rfl) (by decide) ?_
      refine r_icmp_ne (t := 22) hk (dk_at D_Mod_shifts 8 rfl) (by decide) (by omega) (by omega) (fun c_15 => ?_) (fun c_15 => ?_)
      · have e : mSh z = false := decide_eq_false (by omega)
        rw [e]
        refine r_iconst hk (dk_at D_Mod_shifts 11 rfl) ?_
        first | exact r_bret (b := true) hk (dk_at D_Mod_shifts 12 rfl) ex.rf | exact r_bret (b := false) hk (dk_at D_Mod_shifts 12 rfl) ex.rf
      · have e : mSh z = true := decide_eq_true (by omega)
        rw [e]
        refine r_iconst hk (dk_at D_Mod_shifts 9 rfl) ?_
        refine r_goto (t := 23) hk (dk_at D_Mod_shifts 10 rfl) (by decide) ?_
        first | exact r_bret (b := true) hk (dk_at D_Mod_shifts 12 rfl) ex.rf | exact r_bret (b := false) hk (dk_at D_Mod_shifts 12 rfl) ex.rf
def mOp (z : Int) : Bool := mRd z || (mWr z || (mSh z || decide (z = 0 ∨ z = 1 ∨ (44 ≤ z ∧ z ≤ 47) ∨ (90 ≤ z ∧ z ≤ 99))))
theorem c_Mod_isOperation (G : Gt) {ad : Ix → Nat} {w : Wt} {z : Int} (hz : -2147483648 ≤ z ∧ z < 2147483648) : Mt G y_Mod_isOperation w_Mod_isOperation 1 0 0 [.int (i32 z)] ad w (ex (some (.int (i32 (b2i (mOp z))))) ad w) noT := by
  refine Mt.to [some (.int (i32 z))] (fun K hk hR hin => ?_)
  have one : mOp z = true → V G K 1 (QE G K (ex (some (.int (i32 (b2i (mOp z))))) ad w) noT 0 0) 0 0 54 [some (.int (i32 z))] [] ad w := by
    intro e
    rw [e]
    refine r_iconst hk (dk_at D_Mod_isOperation 26 rfl) ?_
    refine r_goto (t := 59) hk (dk_at D_Mod_isOperation 27 rfl) (by decide) ?_
    first | exact r_bret (b := true) hk (dk_at D_Mod_isOperation 29 rfl) ex.rf | exact r_bret (b := false) hk (dk_at D_Mod_isOperation 29 rfl) ex.rf
  refine r_iload_n (i := 0) hk (dk_at D_Mod_isOperation 0 rfl) rfl rfl ?_
  refine r_callS hk hR m_Mod_reads s_Mod_reads ml_Mod_90 (dk_at D_Mod_isOperation 1 rfl) (c_Mod_reads G hz) ?_
  refine r_if_neB (t := 54) hk (dk_at D_Mod_isOperation 2 rfl) (by decide) (fun c_4 => ?_) (fun c_4 => ?_)
  · exact one (by unfold mOp; rw [c_4]; rfl)
  · refine r_iload_n (i := 0) hk (dk_at D_Mod_isOperation 3 rfl) rfl rfl ?_
    refine r_callS hk hR m_Mod_writes s_Mod_writes ml_Mod_93 (dk_at D_Mod_isOperation 4 rfl) (c_Mod_writes G hz) ?_
    refine r_if_neB (t := 54) hk (dk_at D_Mod_isOperation 5 rfl) (by decide) (fun c_11 => ?_) (fun c_11 => ?_)
    · exact one (by unfold mOp; rw [c_11, c_4]; rfl)
    · refine r_iload_n (i := 0) hk (dk_at D_Mod_isOperation 6 rfl) rfl rfl ?_
      refine r_callS hk hR m_Mod_shifts s_Mod_shifts ml_Mod_96 (dk_at D_Mod_isOperation 7 rfl) (c_Mod_shifts G hz) ?_
      refine r_if_neB (t := 54) hk (dk_at D_Mod_isOperation 8 rfl) (by decide) (fun c_18 => ?_) (fun c_18 => ?_)
      · exact one (by unfold mOp; rw [c_18, c_11, c_4]; rfl)
      · have eq : mOp z = decide (z = 0 ∨ z = 1 ∨ (44 ≤ z ∧ z ≤ 47) ∨ (90 ≤ z ∧ z ≤ 99)) := by unfold mOp; rw [c_18, c_11, c_4]; rfl
        refine r_iload_n (i := 0) hk (dk_at D_Mod_isOperation 9 rfl) rfl rfl ?_
        refine r_if_eq (t := 54) hk (dk_at D_Mod_isOperation 10 rfl) (by decide) (by omega) (fun c_22 => ?_) (fun c_22 => ?_)
        · exact one (by rw [eq]; exact decide_eq_true (by omega))
        · refine r_iload_n (i := 0) hk (dk_at D_Mod_isOperation 11 rfl) rfl rfl ?_
          refine r_iconst hk (dk_at D_Mod_isOperation 12 rfl) ?_
          refine r_icmp_eq (t := 54) hk (dk_at D_Mod_isOperation 13 rfl) (by decide) (by omega) (by omega) (fun c_27 => ?_) (fun c_27 => ?_)
          · exact one (by rw [eq]; exact decide_eq_true (by omega))
          · refine r_iload_n (i := 0) hk (dk_at D_Mod_isOperation 14 rfl) rfl rfl ?_
            refine r_bipush hk (dk_at D_Mod_isOperation 15 rfl) (by decide) ?_
            refine r_icmp_lt (t := 42) hk (dk_at D_Mod_isOperation 16 rfl) (by decide) (by omega) (by omega) (fun c_33 => ?_) (fun c_33 => ?_)
            · refine r_iload_n (i := 0) hk (dk_at D_Mod_isOperation 20 rfl) rfl rfl ?_
              refine r_bipush hk (dk_at D_Mod_isOperation 21 rfl) (by decide) ?_
              refine r_icmp_lt (t := 58) hk (dk_at D_Mod_isOperation 22 rfl) (by decide) (by omega) (by omega) (fun c_45 => ?_) (fun c_45 => ?_)
              · have e : mOp z = false := by rw [eq]; exact decide_eq_false (by omega)
                rw [e]
                refine r_iconst hk (dk_at D_Mod_isOperation 28 rfl) ?_
                first | exact r_bret (b := true) hk (dk_at D_Mod_isOperation 29 rfl) ex.rf | exact r_bret (b := false) hk (dk_at D_Mod_isOperation 29 rfl) ex.rf
              · refine r_iload_n (i := 0) hk (dk_at D_Mod_isOperation 23 rfl) rfl rfl ?_
                refine r_bipush hk (dk_at D_Mod_isOperation 24 rfl) (by decide) ?_
                refine r_icmp_gt (t := 58) hk (dk_at D_Mod_isOperation 25 rfl) (by decide) (by omega) (by omega) (fun c_51 => ?_) (fun c_51 => ?_)
                · have e : mOp z = false := by rw [eq]; exact decide_eq_false (by omega)
                  rw [e]
                  refine r_iconst hk (dk_at D_Mod_isOperation 28 rfl) ?_
                  first | exact r_bret (b := true) hk (dk_at D_Mod_isOperation 29 rfl) ex.rf | exact r_bret (b := false) hk (dk_at D_Mod_isOperation 29 rfl) ex.rf
                · exact one (by rw [eq]; exact decide_eq_true (by omega))
            · refine r_iload_n (i := 0) hk (dk_at D_Mod_isOperation 17 rfl) rfl rfl ?_
              refine r_bipush hk (dk_at D_Mod_isOperation 18 rfl) (by decide) ?_
              refine r_icmp_le (t := 54) hk (dk_at D_Mod_isOperation 19 rfl) (by decide) (by omega) (by omega) (fun c_39 => ?_) (fun c_39 => ?_)
              · exact one (by rw [eq]; exact decide_eq_true (by omega))
              · refine r_iload_n (i := 0) hk (dk_at D_Mod_isOperation 20 rfl) rfl rfl ?_
                refine r_bipush hk (dk_at D_Mod_isOperation 21 rfl) (by decide) ?_
                refine r_icmp_lt (t := 58) hk (dk_at D_Mod_isOperation 22 rfl) (by decide) (by omega) (by omega) (fun c_45 => ?_) (fun c_45 => ?_)
                · have e : mOp z = false := by rw [eq]; exact decide_eq_false (by omega)
                  rw [e]
                  refine r_iconst hk (dk_at D_Mod_isOperation 28 rfl) ?_
                  first | exact r_bret (b := true) hk (dk_at D_Mod_isOperation 29 rfl) ex.rf | exact r_bret (b := false) hk (dk_at D_Mod_isOperation 29 rfl) ex.rf
                · refine r_iload_n (i := 0) hk (dk_at D_Mod_isOperation 23 rfl) rfl rfl ?_
                  refine r_bipush hk (dk_at D_Mod_isOperation 24 rfl) (by decide) ?_
                  refine r_icmp_gt (t := 58) hk (dk_at D_Mod_isOperation 25 rfl) (by decide) (by omega) (by omega) (fun c_51 => ?_) (fun c_51 => ?_)
                  · have e : mOp z = false := by rw [eq]; exact decide_eq_false (by omega)
                    rw [e]
                    refine r_iconst hk (dk_at D_Mod_isOperation 28 rfl) ?_
                    first | exact r_bret (b := true) hk (dk_at D_Mod_isOperation 29 rfl) ex.rf | exact r_bret (b := false) hk (dk_at D_Mod_isOperation 29 rfl) ex.rf
                  · exact one (by rw [eq]; exact decide_eq_true (by omega))
def mFx (op d : Nat) : Nat := if op = 30 ∨ op = 35 then d % 10 else if op = 31 then (if d % 10 = 0 then 11 else d % 10 + 1) else if op = 14 ∨ op = 19 then 20 else if op = 70 ∨ op = 71 then 10 else if op = 69 ∨ op = 84 ∨ mRd op = false then 0 else 2
theorem c_Mod_fixed (G : Gt) {ad : Ix → Nat} {w : Wt} {op d : Nat} (hop : op < 1000) (hd : d < 1000000) : Mt G y_Mod_fixed w_Mod_fixed 1 0 0 [.int (i32 op), .int (i32 d)] ad w (ex (some (.int (i32 (mFx op d : Nat)))) ad w) noT := by
  refine Mt.to [some (.int (i32 op)), some (.int (i32 d))] (fun K hk hR hin => ?_)
  refine r_iload_n (i := 0) hk (dk_at D_Mod_fixed 0 rfl) rfl rfl ?_
  refine r_bipush hk (dk_at D_Mod_fixed 1 rfl) (by decide) ?_
  refine r_icmp_eq (t := 12) hk (dk_at D_Mod_fixed 2 rfl) (by decide) (by omega) (by omega) (fun c_3 => ?_) (fun c_3 => ?_)
  · refine r_iload_n (i := 1) hk (dk_at D_Mod_fixed 6 rfl) rfl rfl ?_
    refine r_bipush hk (dk_at D_Mod_fixed 7 rfl) (by decide) ?_
    refine r_irem hk (dk_at D_Mod_fixed 8 rfl) (by omega) (by omega) ?_
    have e : mFx op d = d % 10 := if_pos (by omega)
    rw [e]
    refine r_topi (x' := ((d % 10 : Nat) : Int)) (by omega) ?_
    exact r_iret hk (dk_at D_Mod_fixed 9 rfl) ex.rf
  · refine r_iload_n (i := 0) hk (dk_at D_Mod_fixed 3 rfl) rfl rfl ?_
    refine r_bipush hk (dk_at D_Mod_fixed 4 rfl) (by decide) ?_
    refine r_icmp_ne (t := 17) hk (dk_at D_Mod_fixed 5 rfl) (by decide) (by omega) (by omega) (fun c_9 => ?_) (fun c_9 => ?_)
    · refine r_iload_n (i := 0) hk (dk_at D_Mod_fixed 10 rfl) rfl rfl ?_
      refine r_bipush hk (dk_at D_Mod_fixed 11 rfl) (by decide) ?_
      refine r_icmp_ne (t := 42) hk (dk_at D_Mod_fixed 12 rfl) (by decide) (by omega) (by omega) (fun c_20 => ?_) (fun c_20 => ?_)
      · refine r_iload_n (i := 0) hk (dk_at D_Mod_fixed 25 rfl) rfl rfl ?_
        refine r_bipush hk (dk_at D_Mod_fixed 26 rfl) (by decide) ?_
        refine r_icmp_eq (t := 54) hk (dk_at D_Mod_fixed 27 rfl) (by decide) (by omega) (by omega) (fun c_45 => ?_) (fun c_45 => ?_)
        · have e : mFx op d = 20 := (if_neg (by omega)).trans ((if_neg (by omega)).trans (if_pos (by omega)))
          rw [e]
          refine r_bipush hk (dk_at D_Mod_fixed 31 rfl) (by decide) ?_
          exact r_iret hk (dk_at D_Mod_fixed 32 rfl) ex.rf
        · refine r_iload_n (i := 0) hk (dk_at D_Mod_fixed 28 rfl) rfl rfl ?_
          refine r_bipush hk (dk_at D_Mod_fixed 29 rfl) (by decide) ?_
          refine r_icmp_ne (t := 57) hk (dk_at D_Mod_fixed 30 rfl) (by decide) (by omega) (by omega) (fun c_51 => ?_) (fun c_51 => ?_)
          · refine r_iload_n (i := 0) hk (dk_at D_Mod_fixed 33 rfl) rfl rfl ?_
            refine r_bipush hk (dk_at D_Mod_fixed 34 rfl) (by decide) ?_
            refine r_icmp_eq (t := 69) hk (dk_at D_Mod_fixed 35 rfl) (by decide) (by omega) (by omega) (fun c_60 => ?_) (fun c_60 => ?_)
            · have e : mFx op d = 10 := (if_neg (by omega)).trans ((if_neg (by omega)).trans ((if_neg (by omega)).trans (if_pos (by omega))))
              rw [e]
              refine r_bipush hk (dk_at D_Mod_fixed 39 rfl) (by decide) ?_
              exact r_iret hk (dk_at D_Mod_fixed 40 rfl) ex.rf
            · refine r_iload_n (i := 0) hk (dk_at D_Mod_fixed 36 rfl) rfl rfl ?_
              refine r_bipush hk (dk_at D_Mod_fixed 37 rfl) (by decide) ?_
              refine r_icmp_ne (t := 72) hk (dk_at D_Mod_fixed 38 rfl) (by decide) (by omega) (by omega) (fun c_66 => ?_) (fun c_66 => ?_)
              · refine r_iload_n (i := 0) hk (dk_at D_Mod_fixed 41 rfl) rfl rfl ?_
                refine r_bipush hk (dk_at D_Mod_fixed 42 rfl) (by decide) ?_
                refine r_icmp_eq (t := 91) hk (dk_at D_Mod_fixed 43 rfl) (by decide) (by omega) (by omega) (fun c_75 => ?_) (fun c_75 => ?_)
                · have e : mFx op d = 0 := (if_neg (by omega)).trans ((if_neg (by omega)).trans ((if_neg (by omega)).trans ((if_neg (by omega)).trans (if_pos (Or.inl (by omega))))))
                  rw [e]
                  refine r_iconst hk (dk_at D_Mod_fixed 50 rfl) ?_
                  refine r_goto (t := 96) hk (dk_at D_Mod_fixed 51 rfl) (by decide) ?_
                  exact r_iret hk (dk_at D_Mod_fixed 53 rfl) ex.rf
                · refine r_iload_n (i := 0) hk (dk_at D_Mod_fixed 44 rfl) rfl rfl ?_
                  refine r_bipush hk (dk_at D_Mod_fixed 45 rfl) (by decide) ?_
                  refine r_icmp_eq (t := 91) hk (dk_at D_Mod_fixed 46 rfl) (by decide) (by omega) (by omega) (fun c_81 => ?_) (fun c_81 => ?_)
                  · have e : mFx op d = 0 := (if_neg (by omega)).trans ((if_neg (by omega)).trans ((if_neg (by omega)).trans ((if_neg (by omega)).trans (if_pos (Or.inr (Or.inl (by omega)))))))
                    rw [e]
                    refine r_iconst hk (dk_at D_Mod_fixed 50 rfl) ?_
                    refine r_goto (t := 96) hk (dk_at D_Mod_fixed 51 rfl) (by decide) ?_
                    exact r_iret hk (dk_at D_Mod_fixed 53 rfl) ex.rf
                  · refine r_iload_n (i := 0) hk (dk_at D_Mod_fixed 47 rfl) rfl rfl ?_
                    refine r_callS hk hR m_Mod_reads s_Mod_reads ml_Mod_90 (dk_at D_Mod_fixed 48 rfl) (c_Mod_reads G (z := (op : Int)) (by omega)) ?_
                    refine r_if_neB (t := 95) hk (dk_at D_Mod_fixed 49 rfl) (by decide) (fun c_88 => ?_) (fun c_88 => ?_)
                    · have e : mFx op d = 2 := (if_neg (by omega)).trans ((if_neg (by omega)).trans ((if_neg (by omega)).trans ((if_neg (by omega)).trans (if_neg (fun z => by rcases z with z | z | z; omega; omega; rw [c_88] at z; cases z)))))
                      rw [e]
                      refine r_iconst hk (dk_at D_Mod_fixed 52 rfl) ?_
                      exact r_iret hk (dk_at D_Mod_fixed 53 rfl) ex.rf
                    · have e : mFx op d = 0 := (if_neg (by omega)).trans ((if_neg (by omega)).trans ((if_neg (by omega)).trans ((if_neg (by omega)).trans (if_pos (Or.inr (Or.inr c_88))))))
                      rw [e]
                      refine r_iconst hk (dk_at D_Mod_fixed 50 rfl) ?_
                      refine r_goto (t := 96) hk (dk_at D_Mod_fixed 51 rfl) (by decide) ?_
                      exact r_iret hk (dk_at D_Mod_fixed 53 rfl) ex.rf
              · have e : mFx op d = 10 := (if_neg (by omega)).trans ((if_neg (by omega)).trans ((if_neg (by omega)).trans (if_pos (by omega))))
                rw [e]
                refine r_bipush hk (dk_at D_Mod_fixed 39 rfl) (by decide) ?_
                exact r_iret hk (dk_at D_Mod_fixed 40 rfl) ex.rf
          · have e : mFx op d = 20 := (if_neg (by omega)).trans ((if_neg (by omega)).trans (if_pos (by omega)))
            rw [e]
            refine r_bipush hk (dk_at D_Mod_fixed 31 rfl) (by decide) ?_
            exact r_iret hk (dk_at D_Mod_fixed 32 rfl) ex.rf
      · refine r_iload_n (i := 1) hk (dk_at D_Mod_fixed 13 rfl) rfl rfl ?_
        refine r_bipush hk (dk_at D_Mod_fixed 14 rfl) (by decide) ?_
        refine r_irem hk (dk_at D_Mod_fixed 15 rfl) (by omega) (by omega) ?_
        refine r_if_ne (t := 35) hk (dk_at D_Mod_fixed 16 rfl) (by decide) (by omega) (fun c_27 => ?_) (fun c_27 => ?_)
        · have e : mFx op d = d % 10 + 1 := (if_neg (by omega)).trans ((if_pos (by omega)).trans (if_neg (by omega)))
          rw [e]
          refine r_iload_n (i := 1) hk (dk_at D_Mod_fixed 19 rfl) rfl rfl ?_
          refine r_bipush hk (dk_at D_Mod_fixed 20 rfl) (by decide) ?_
          refine r_irem hk (dk_at D_Mod_fixed 21 rfl) (by omega) (by omega) ?_
          refine r_iconst hk (dk_at D_Mod_fixed 22 rfl) ?_
          refine r_iadd hk (dk_at D_Mod_fixed 23 rfl) ?_
          first | exact r_iret hk (dk_at D_Mod_fixed 24 rfl) ex.rf | (refine r_topi (x' := ((d % 10 + 1 : Nat) : Int)) (by omega) ?_; exact r_iret hk (dk_at D_Mod_fixed 24 rfl) ex.rf)
        · have e : mFx op d = 11 := (if_neg (by omega)).trans ((if_pos (by omega)).trans (if_pos (by omega)))
          rw [e]
          refine r_bipush hk (dk_at D_Mod_fixed 17 rfl) (by decide) ?_
          refine r_goto (t := 41) hk (dk_at D_Mod_fixed 18 rfl) (by decide) ?_
          first | exact r_iret hk (dk_at D_Mod_fixed 24 rfl) ex.rf | (refine r_topi (x' := ((d % 10 + 1 : Nat) : Int)) (by omega) ?_; exact r_iret hk (dk_at D_Mod_fixed 24 rfl) ex.rf)
    · refine r_iload_n (i := 1) hk (dk_at D_Mod_fixed 6 rfl) rfl rfl ?_
      refine r_bipush hk (dk_at D_Mod_fixed 7 rfl) (by decide) ?_
      refine r_irem hk (dk_at D_Mod_fixed 8 rfl) (by omega) (by omega) ?_
      have e : mFx op d = d % 10 := if_pos (by omega)
      rw [e]
      refine r_topi (x' := ((d % 10 : Nat) : Int)) (by omega) ?_
      exact r_iret hk (dk_at D_Mod_fixed 9 rfl) ex.rf
def mWd (v : Int) : Bool := decide (0 ≤ v ∧ v < 10000000000)
theorem c_Mod_isWord (G : Gt) {ad : Ix → Nat} {w : Wt} {v : Int} (hv : -9223372036854775808 ≤ v ∧ v < 9223372036854775808) : Mt G y_Mod_isWord w_Mod_isWord 0 0 0 [.long (i64 v)] ad w (ex (some (.int (i32 (b2i (mWd v))))) ad w) noT := by
  refine Mt.to [some (.long (i64 v)), none] (fun K hk hR hin => ?_)
  refine r_lload_n (i := 0) hk (dk_at D_Mod_isWord 0 rfl) rfl rfl ?_
  refine r_lconst (z := 0) hk (dk_at D_Mod_isWord 1 rfl) rfl ?_
  refine r_lc_lt (t := 18) hk (dk_at D_Mod_isWord 2 rfl) (dk_at D_Mod_isWord 3 rfl) (by decide) (by omega) (by omega) (fun c_3 => ?_) (fun c_3 => ?_)
  · have e : mWd v = false := decide_eq_false (by omega)
    rw [e]
    refine r_iconst hk (dk_at D_Mod_isWord 10 rfl) ?_
    first | exact r_bret (b := true) hk (dk_at D_Mod_isWord 11 rfl) ex.rf | exact r_bret (b := false) hk (dk_at D_Mod_isWord 11 rfl) ex.rf
  · refine r_lload_n (i := 0) hk (dk_at D_Mod_isWord 4 rfl) rfl rfl ?_
    refine r_ldc2 hk kl_Mod_65 (dk_at D_Mod_isWord 5 rfl) ?_
    refine r_lc_ge (t := 18) hk (dk_at D_Mod_isWord 6 rfl) (dk_at D_Mod_isWord 7 rfl) (by decide) (by omega) (by omega) (fun c_11 => ?_) (fun c_11 => ?_)
    · have e : mWd v = false := decide_eq_false (by omega)
      rw [e]
      refine r_iconst hk (dk_at D_Mod_isWord 10 rfl) ?_
      first | exact r_bret (b := true) hk (dk_at D_Mod_isWord 11 rfl) ex.rf | exact r_bret (b := false) hk (dk_at D_Mod_isWord 11 rfl) ex.rf
    · have e : mWd v = true := decide_eq_true (by omega)
      rw [e]
      refine r_iconst hk (dk_at D_Mod_isWord 8 rfl) ?_
      refine r_goto (t := 19) hk (dk_at D_Mod_isWord 9 rfl) (by decide) ?_
      first | exact r_bret (b := true) hk (dk_at D_Mod_isWord 11 rfl) ex.rf | exact r_bret (b := false) hk (dk_at D_Mod_isWord 11 rfl) ex.rf
def fd5 (l : Nat) : Nat → Int
  | 0 => -1
  | n + 1 => if l = 2 ^ n then (n : Int) else fd5 l n
theorem fd5_r (l : Nat) : ∀ n, -1 ≤ fd5 l n ∧ fd5 l n < n
  | 0 => by show (-1 : Int) ≤ -1 ∧ (-1 : Int) < 0; decide
  | n + 1 => by
    have := fd5_r l n
    unfold fd5
    split <;> omega
theorem shr5 : ∀ c, c < 128 → i32 ((c : Nat) : Int) >>> (i32 5 &&& 31) = i32 ((c / 32 : Nat) : Int) := by decide +kernel
theorem and31 : ∀ c, c < 128 → i32 ((c : Nat) : Int) &&& i32 31 = i32 ((c % 32 : Nat) : Int) := by decide +kernel
theorem deco5 : ∀ c, c < 128 → deco c = if fd5 (c % 32) 5 = -1 ∨ (c / 32 ≠ 1 ∧ c / 32 ≠ 2) then -1 else if c / 32 = 1 then fd5 (c % 32) 5 else fd5 (c % 32) 5 + 5 := by decide
theorem c_Mod_digitOf (G : Gt) {ad : Ix → Nat} {w : Wt} {c : Nat} (hc : c < 128) : Mt G y_Mod_digitOf w_Mod_digitOf 0 0 0 [.int (i32 c)] ad w (ex (some (.int (i32 (deco c)))) ad w) noT := by
  refine Mt.to [some (.int (i32 c)), none, none, none] (fun K hk hR hin => ?_)
  have hd5 := deco5 c hc
  have loop : ∀ n : Nat, n ≤ 5 → ∀ u k : Int, u = fd5 (c % 32) n → k = (n : Int) → V G K 4 (QE G K (ex (some (.int (i32 (deco c)))) ad w) noT 0 0) 0 0 8 [some (.int (i32 c)), some (.int (i32 ((c / 32 : Nat) : Int))), some (.int (i32 u)), some (.int (i32 k))] [] ad w := by
    refine nup 5 (fun n hn ih u k hu hkk => ?_)
    have hf := fd5_r (c % 32) n
    subst hkk
    have hp2 : n < 5 → 2 ^ n ≤ 16 := fun h => by
      have : ∀ k, k < 5 → 2 ^ k ≤ 16 := by decide
      exact this n h
    refine r_iload_n (i := 3) hk (dk_at D_Mod_digitOf 8 rfl) rfl rfl ?_
    refine r_iconst hk (dk_at D_Mod_digitOf 9 rfl) ?_
    refine r_icmp_ge (t := 31) hk (dk_at D_Mod_digitOf 10 rfl) (by decide) (by omega) (by omega) (fun c_10 => ?_) (fun c_10 => ?_)
    · obtain rfl : n = 5 := by omega
      subst hu
      refine r_iload_n (i := 2) hk (dk_at D_Mod_digitOf 22 rfl) rfl rfl ?_
      refine r_iconst hk (dk_at D_Mod_digitOf 23 rfl) ?_
      refine r_icmp_eq (t := 46) hk (dk_at D_Mod_digitOf 24 rfl) (by decide) (by omega) (by omega) (fun c_33 => ?_) (fun c_33 => ?_)
      · rw [if_pos (by omega)] at hd5
        rw [hd5]
        refine r_iconst hk (dk_at D_Mod_digitOf 31 rfl) ?_
        exact r_iret hk (dk_at D_Mod_digitOf 32 rfl) ex.rf
      · refine r_iload_n (i := 1) hk (dk_at D_Mod_digitOf 25 rfl) rfl rfl ?_
        refine r_iconst hk (dk_at D_Mod_digitOf 26 rfl) ?_
        refine r_icmp_eq (t := 48) hk (dk_at D_Mod_digitOf 27 rfl) (by decide) (by omega) (by omega) (fun c_38 => ?_) (fun c_38 => ?_)
        · rw [if_neg (by omega)] at hd5
          refine r_iload_n (i := 1) hk (dk_at D_Mod_digitOf 33 rfl) rfl rfl ?_
          refine r_iconst hk (dk_at D_Mod_digitOf 34 rfl) ?_
          refine r_icmp_ne (t := 57) hk (dk_at D_Mod_digitOf 35 rfl) (by decide) (by omega) (by omega) (fun c_50 => ?_) (fun c_50 => ?_)
          · rw [if_neg (by omega)] at hd5
            rw [hd5]
            refine r_iload_n (i := 2) hk (dk_at D_Mod_digitOf 38 rfl) rfl rfl ?_
            refine r_iconst hk (dk_at D_Mod_digitOf 39 rfl) ?_
            refine r_iadd hk (dk_at D_Mod_digitOf 40 rfl) ?_
            exact r_iret hk (dk_at D_Mod_digitOf 41 rfl) ex.rf
          · rw [if_pos (by omega)] at hd5
            rw [hd5]
            refine r_iload_n (i := 2) hk (dk_at D_Mod_digitOf 36 rfl) rfl rfl ?_
            refine r_goto (t := 60) hk (dk_at D_Mod_digitOf 37 rfl) (by decide) ?_
            exact r_iret hk (dk_at D_Mod_digitOf 41 rfl) ex.rf
        · refine r_iload_n (i := 1) hk (dk_at D_Mod_digitOf 28 rfl) rfl rfl ?_
          refine r_iconst hk (dk_at D_Mod_digitOf 29 rfl) ?_
          refine r_icmp_eq (t := 48) hk (dk_at D_Mod_digitOf 30 rfl) (by decide) (by omega) (by omega) (fun c_43 => ?_) (fun c_43 => ?_)
          · rw [if_neg (by omega)] at hd5
            refine r_iload_n (i := 1) hk (dk_at D_Mod_digitOf 33 rfl) rfl rfl ?_
            refine r_iconst hk (dk_at D_Mod_digitOf 34 rfl) ?_
            refine r_icmp_ne (t := 57) hk (dk_at D_Mod_digitOf 35 rfl) (by decide) (by omega) (by omega) (fun c_50 => ?_) (fun c_50 => ?_)
            · rw [if_neg (by omega)] at hd5
              rw [hd5]
              refine r_iload_n (i := 2) hk (dk_at D_Mod_digitOf 38 rfl) rfl rfl ?_
              refine r_iconst hk (dk_at D_Mod_digitOf 39 rfl) ?_
              refine r_iadd hk (dk_at D_Mod_digitOf 40 rfl) ?_
              exact r_iret hk (dk_at D_Mod_digitOf 41 rfl) ex.rf
            · rw [if_pos (by omega)] at hd5
              rw [hd5]
              refine r_iload_n (i := 2) hk (dk_at D_Mod_digitOf 36 rfl) rfl rfl ?_
              refine r_goto (t := 60) hk (dk_at D_Mod_digitOf 37 rfl) (by decide) ?_
              exact r_iret hk (dk_at D_Mod_digitOf 41 rfl) ex.rf
          · rw [if_pos (by omega)] at hd5
            rw [hd5]
            refine r_iconst hk (dk_at D_Mod_digitOf 31 rfl) ?_
            exact r_iret hk (dk_at D_Mod_digitOf 32 rfl) ex.rf
    · have hp3 := hp2 (by omega)
      refine r_iload_n (i := 0) hk (dk_at D_Mod_digitOf 11 rfl) rfl rfl ?_
      refine r_bipush hk (dk_at D_Mod_digitOf 12 rfl) (by decide) ?_
      refine r_iand hk (dk_at D_Mod_digitOf 13 rfl) (and31 c hc) ?_
      refine r_iconst hk (dk_at D_Mod_digitOf 14 rfl) ?_
      refine r_iload_n (i := 3) hk (dk_at D_Mod_digitOf 15 rfl) rfl rfl ?_
      refine r_ishl hk (dk_at D_Mod_digitOf 16 rfl) (shl1 n (by omega)) ?_
      generalize hP : 2 ^ n = P at hp3 ⊢
      refine r_icmp_ne (t := 25) hk (dk_at D_Mod_digitOf 17 rfl) (by decide) (by omega) (by omega) (fun c_20 => ?_) (fun c_20 => ?_)
      · refine r_iinc (i := 3) (ls' := [_, _, _, _]) hk (dk_at D_Mod_digitOf 20 rfl) rfl rfl rfl rfl ?_
        refine r_goto (t := 8) hk (dk_at D_Mod_digitOf 21 rfl) (by decide) ?_
        exact ih (by omega) _ _ (by unfold fd5; rw [hP, if_neg (by omega)]; exact hu) (by omega)
      · refine r_iload_n (i := 3) hk (dk_at D_Mod_digitOf 18 rfl) rfl rfl ?_
        refine r_istore_n (i := 2) (ls' := [_, _, _, _]) hk (dk_at D_Mod_digitOf 19 rfl) rfl rfl rfl rfl ?_
        refine r_iinc (i := 3) (ls' := [_, _, _, _]) hk (dk_at D_Mod_digitOf 20 rfl) rfl rfl rfl rfl ?_
        refine r_goto (t := 8) hk (dk_at D_Mod_digitOf 21 rfl) (by decide) ?_
        exact ih (by omega) _ _ (by unfold fd5; rw [hP, if_pos (by omega)]) (by omega)
  refine r_iload_n (i := 0) hk (dk_at D_Mod_digitOf 0 rfl) rfl rfl ?_
  refine r_iconst hk (dk_at D_Mod_digitOf 1 rfl) ?_
  refine r_ishr hk (dk_at D_Mod_digitOf 2 rfl) (shr5 c hc) ?_
  refine r_istore_n (i := 1) (ls' := [_, _, _, _]) hk (dk_at D_Mod_digitOf 3 rfl) rfl rfl rfl rfl ?_
  refine r_iconst hk (dk_at D_Mod_digitOf 4 rfl) ?_
  refine r_istore_n (i := 2) (ls' := [_, _, _, _]) hk (dk_at D_Mod_digitOf 5 rfl) rfl rfl rfl rfl ?_
  refine r_iconst hk (dk_at D_Mod_digitOf 6 rfl) ?_
  refine r_istore_n (i := 3) (ls' := [_, _, _, _]) hk (dk_at D_Mod_digitOf 7 rfl) rfl rfl rfl rfl ?_
  exact loop 0 (Nat.zero_le _) _ _ rfl rfl
theorem ds_top {v k : Nat} (h : v / 10 ^ k = 0) : ∀ n, ds v (k + n) = ds v k
  | 0 => rfl
  | n + 1 => by
    have e : dgt v (k + n) = 0 := by
      unfold dgt
      rw [Nat.pow_add, ← Nat.div_div_eq_div_mul, h, Nat.zero_div]
    show ds v (k + n) + dgt v (k + n) = _
    rw [e, ds_top h n, Nat.add_zero]
theorem c_Mod_sumOfDigits (G : Gt) {ad : Ix → Nat} {w : Wt} {v : Nat} (hv : v < 10 ^ 10) : Mt G y_Mod_sumOfDigits w_Mod_sumOfDigits 0 0 0 [.long (i64 v)] ad w (ex (some (.int (i32 (ds v 10 : Nat)))) ad w) noT := by
  refine Mt.to [some (.long (i64 v)), none, none, none, none] (fun K hk hR hin => ?_)
  have loop : ∀ n : Nat, n ≤ 10 → ∀ (u k : Int), u = ((v / 10 ^ n : Nat) : Int) → k = ((ds v n : Nat) : Int) → V G K 5 (QE G K (ex (some (.int (i32 (ds v 10 : Nat)))) ad w) noT 0 0) 0 0 4 [some (.long (i64 v)), none, some (.int (i32 k)), some (.long (i64 u)), none] [] ad w := by
    refine nup 10 (fun n hn ih u k hu hkk => ?_)
    have hle : v / 10 ^ n ≤ v := Nat.div_le_self _ _
    have hds := ds_le v n
    have hpos : (0 : Int) ≤ ((v / 10 ^ n : Nat) : Int) := Int.natCast_nonneg _
    refine r_lload_n (i := 3) hk (dk_at D_Mod_sumOfDigits 4 rfl) rfl rfl ?_
    refine r_lconst (z := 0) hk (dk_at D_Mod_sumOfDigits 5 rfl) rfl ?_
    refine r_lc_le (t := 28) hk (dk_at D_Mod_sumOfDigits 6 rfl) (dk_at D_Mod_sumOfDigits 7 rfl) (by decide) (by omega) (by omega) (fun c_7 => ?_) (fun c_7 => ?_)
    · have e : ds v 10 = ds v n := by
        have := ds_top (v := v) (k := n) (by omega) (10 - n)
        rwa [show n + (10 - n) = 10 by omega] at this
      rw [e]
      subst hkk
      refine r_iload_n (i := 2) hk (dk_at D_Mod_sumOfDigits 20 rfl) rfl rfl ?_
      exact r_iret hk (dk_at D_Mod_sumOfDigits 21 rfl) ex.rf
    · have hn10 : n < 10 := by
        rcases Nat.lt_or_ge n 10 with h | h
        · exact h
        · obtain rfl : n = 10 := by omega
          rw [Nat.div_eq_of_lt hv] at hu
          omega
      have hd := dgt_lt v n
      have hq := dgt_step v n
      refine r_iload_n (i := 2) hk (dk_at D_Mod_sumOfDigits 8 rfl) rfl rfl ?_
      refine r_lload_n (i := 3) hk (dk_at D_Mod_sumOfDigits 9 rfl) rfl rfl ?_
      refine r_ldc2 hk kl_Mod_67 (dk_at D_Mod_sumOfDigits 10 rfl) ?_
      refine r_lrem hk (dk_at D_Mod_sumOfDigits 11 rfl) (by omega) (by omega) ?_
      refine r_l2i hk (dk_at D_Mod_sumOfDigits 12 rfl) ?_
      refine r_iadd hk (dk_at D_Mod_sumOfDigits 13 rfl) ?_
      refine r_istore_n (i := 2) (ls' := [_, _, _, _, _]) hk (dk_at D_Mod_sumOfDigits 14 rfl) rfl rfl rfl rfl ?_
      refine r_lload_n (i := 3) hk (dk_at D_Mod_sumOfDigits 15 rfl) rfl rfl ?_
      refine r_ldc2 hk kl_Mod_67 (dk_at D_Mod_sumOfDigits 16 rfl) ?_
      refine r_ldiv hk (dk_at D_Mod_sumOfDigits 17 rfl) (by omega) (by omega) ?_
      refine r_lstore_n (i := 3) (ls' := [_, _, _, _, _]) hk (dk_at D_Mod_sumOfDigits 18 rfl) rfl rfl rfl rfl ?_
      refine r_goto (t := 4) hk (dk_at D_Mod_sumOfDigits 19 rfl) (by decide) ?_
      exact ih hn10 _ _ (by omega) (by show _ = ((ds v n + dgt v n : Nat) : Int); omega)
  refine r_iconst hk (dk_at D_Mod_sumOfDigits 0 rfl) ?_
  refine r_istore_n (i := 2) (ls' := [_, _, _, _, _]) hk (dk_at D_Mod_sumOfDigits 1 rfl) rfl rfl rfl rfl ?_
  refine r_lload_n (i := 0) hk (dk_at D_Mod_sumOfDigits 2 rfl) rfl rfl ?_
  refine r_lstore_n (i := 3) (ls' := [_, _, _, _, _]) hk (dk_at D_Mod_sumOfDigits 3 rfl) rfl rfl rfl rfl ?_
  exact loop 0 (Nat.zero_le _) _ _ (by rw [dgt_0]) rfl
