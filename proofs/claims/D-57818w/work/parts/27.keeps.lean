/-! ===== what is kept to be undone (pure) ===== -/
def sp_psh (f : Nat → Int32) (k : Nat) : Nat → Int32 := fun j => if j < k then f (j + 212) else f j
theorem sp_psh_0 (f : Nat → Int32) : sp_psh f 0 = f := by funext j; exact if_neg (by omega)
theorem sp_psh_s (f : Nat → Int32) (k : Nat) : sp_psh f (k + 1) = va_up (sp_psh f k) k (sp_psh f k (k + 212)) := by
  funext j
  by_cases e : j = k
  · subst e
    rw [va_eq]
    unfold sp_psh
    rw [if_pos (by omega), if_neg (by omega)]
  · rw [va_ne e]
    unfold sp_psh
    by_cases h : j < k
    · rw [if_pos h, if_pos (by omega)]
    · rw [if_neg h, if_neg (by omega)]
theorem psh_step (B : Nat → Nat → Int32) (q : Nat) (f : Nat → Int32) (k : Nat) : va_up (va_up B q (sp_psh f k)) q (va_up ((va_up B q (sp_psh f k)) q) k ((va_up B q (sp_psh f k)) q (k + 212))) = va_up B q (sp_psh f (k + 1)) := by
  rw [va_uu, va_eq, sp_psh_s]
def sp_pastK (f : Nat → Int32) (u : Nat) : Nat → Int32 := if u = 8 then sp_psh f 1484 else f
def sp_keepsB (B : Nat → Nat → Int32) (n : Nat → Int32) (u : Nat) : Nat → Nat → Int32 := va_up B 3 (sp_cp (212 * min u 7) n (sp_pastK (B 3) u) 212)
def sp_keepsF (F : Nat → Int32) (u : Nat) : Nat → Int32 := va_up F 6 (nI (min u 7 + 1))
def sp_chF (F : Nat → Int32) (u : Nat) (sc : Bool) : Nat → Int32 := if sc = true then F else sp_keepsF F u
def sp_chB (B : Nat → Nat → Int32) (n : Nat → Int32) (u : Nat) (sc : Bool) : Nat → Nat → Int32 := if sc = true then B else sp_keepsB B n u
theorem sp_chF_t {F : Nat → Int32} {u : Nat} {sc : Bool} (h : sc = true) : sp_chF F u sc = F := if_pos h
theorem sp_chF_f {F : Nat → Int32} {u : Nat} {sc : Bool} (h : ¬ sc = true) : sp_chF F u sc = sp_keepsF F u := if_neg h
theorem sp_chB_t {B : Nat → Nat → Int32} {n : Nat → Int32} {u : Nat} {sc : Bool} (h : sc = true) : sp_chB B n u sc = B := if_pos h
theorem sp_chB_f {B : Nat → Nat → Int32} {n : Nat → Int32} {u : Nat} {sc : Bool} (h : ¬ sc = true) : sp_chB B n u sc = sp_keepsB B n u := if_neg h
theorem sp_chF_k (F : Nat → Int32) (u : Nat) (sc : Bool) {k : Nat} (hk : k ≠ 6) : sp_chF F u sc k = F k := by
  unfold sp_chF sp_keepsF
  split
  · rfl
  · exact va_ne hk
def sp_signN (n : Nat → Int32) (c s g x : Nat) : Nat → Int32 := va_up (va_up (va_up n (142 + 5 * c + 2) (nI s)) (142 + 5 * c + 3) (nI g)) (142 + 5 * c + 4) (nI x)
