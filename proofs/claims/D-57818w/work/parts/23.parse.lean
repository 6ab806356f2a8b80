/-! ===== the reader of texts, as the reference has it (pure) ===== -/
def sn (b : Nat → Int32) (N k : Nat) : Int32 := if k < N then b k else -1
abbrev isAZ (x : Int32) : Prop := nI 97 ≤ x ∧ x ≤ nI 122
abbrev is09 (x : Int32) : Prop := nI 48 ≤ x ∧ x ≤ nI 57
def ws (b : Nat → Int32) : Nat → Nat → Nat
  | 0, s => s
  | d + 1, s => if b s = nI 32 ∨ b s = nI 10 then ws b d (s + 1) else s
def wd (b : Nat → Int32) : Nat → Nat → Nat
  | 0, s => s
  | d + 1, s => if isAZ (b s) then wd b d (s + 1) else s
def dg (b : Nat → Int32) : Nat → Nat → Int32 → Nat × Int32
  | 0, s, v => (s, v)
  | d + 1, s, v => if is09 (b s) then dg b d (s + 1) (imin (nI 1000) (nI 10 * v + b s - nI 48)) else (s, v)
theorem m1_ne {k : Nat} (hk : k < 2 ^ 31) : ¬ (-1 : Int32) = nI k := fun e => by
  have h2 := congrArg Int32.toInt e
  rw [nI_toInt hk] at h2
  have h3 : Int32.toInt (-1) = -1 := by decide
  omega
theorem sn_lt {b : Nat → Int32} {N k : Nat} (h : ¬ sn b N k = -1) : k < N := by
  unfold sn at h
  by_cases e : k < N
  · exact e
  · rw [if_neg e] at h; exact absurd rfl h
theorem sn_b {b : Nat → Int32} {N k : Nat} (h : k < N) : sn b N k = b k := if_pos h
theorem sn_nI {b : Nat → Int32} {N k v : Nat} (h : sn b N k = nI v) (hv : v < 2 ^ 31) : k < N := sn_lt (by rw [h]; exact fun e => m1_ne hv e.symm)
theorem isAZ_m1 : ¬ isAZ (-1) := by decide
theorem is09_m1 : ¬ is09 (-1) := by decide
theorem ws_go {b : Nat → Int32} {N s : Nat} (h : sn b N s = nI 32 ∨ sn b N s = nI 10) : s < N ∧ ws b (N - s) s = ws b (N - (s + 1)) (s + 1) := by
  have hs : s < N := by rcases h with h | h <;> exact sn_nI h (by decide)
  refine ⟨hs, ?_⟩
  rw [sn_b hs] at h
  have e : N - s = (N - (s + 1)) + 1 := by omega
  rw [e]
  exact if_pos h
theorem ws_stop {b : Nat → Int32} {N s : Nat} (h1 : ¬ sn b N s = nI 32) (h2 : ¬ sn b N s = nI 10) : ws b (N - s) s = s := by
  by_cases hs : s < N
  · rw [sn_b hs] at h1 h2
    have e : N - s = (N - (s + 1)) + 1 := by omega
    rw [e]
    exact if_neg (fun q => q.elim h1 h2)
  · have e : N - s = 0 := by omega
    rw [e]; rfl
theorem wd_go {b : Nat → Int32} {N s : Nat} (h : isAZ (sn b N s)) : s < N ∧ wd b (N - s) s = wd b (N - (s + 1)) (s + 1) := by
  have hs : s < N := sn_lt (fun e => isAZ_m1 (e ▸ h))
  refine ⟨hs, ?_⟩
  rw [sn_b hs] at h
  have e : N - s = (N - (s + 1)) + 1 := by omega
  rw [e]
  exact if_pos h
theorem wd_stop {b : Nat → Int32} {N s : Nat} (h1 : ¬ isAZ (sn b N s)) : wd b (N - s) s = s := by
  by_cases hs : s < N
  · rw [sn_b hs] at h1
    have e : N - s = (N - (s + 1)) + 1 := by omega
    rw [e]
    exact if_neg h1
  · have e : N - s = 0 := by omega
    rw [e]; rfl
theorem dg_go {b : Nat → Int32} {N s : Nat} {v : Int32} (h : is09 (sn b N s)) : s < N ∧ dg b (N - s) s v = dg b (N - (s + 1)) (s + 1) (imin (nI 1000) (nI 10 * v + sn b N s - nI 48)) := by
  have hs : s < N := sn_lt (fun e => is09_m1 (e ▸ h))
  refine ⟨hs, ?_⟩
  rw [sn_b hs] at h ⊢
  have e : N - s = (N - (s + 1)) + 1 := by omega
  rw [e]
  exact if_pos h
theorem dg_stop {b : Nat → Int32} {N s : Nat} {v : Int32} (h1 : ¬ is09 (sn b N s)) : dg b (N - s) s v = (s, v) := by
  by_cases hs : s < N
  · rw [sn_b hs] at h1
    have e : N - s = (N - (s + 1)) + 1 := by omega
    rw [e]
    exact if_neg h1
  · have e : N - s = 0 := by omega
    rw [e]; rfl
theorem ws_le (b : Nat → Int32) (d s : Nat) : s ≤ ws b d s ∧ ws b d s ≤ s + d := by
  induction d generalizing s with
  | zero => exact ⟨Nat.le_refl _, Nat.le_refl _⟩
  | succ d ih =>
    unfold ws
    split
    · have := ih (s + 1); omega
    · omega
theorem wd_le (b : Nat → Int32) (d s : Nat) : s ≤ wd b d s ∧ wd b d s ≤ s + d := by
  induction d generalizing s with
  | zero => exact ⟨Nat.le_refl _, Nat.le_refl _⟩
  | succ d ih =>
    unfold wd
    split
    · have := ih (s + 1); omega
    · omega
theorem dg_le (b : Nat → Int32) (d s : Nat) (v : Int32) : s ≤ (dg b d s v).1 ∧ (dg b d s v).1 ≤ s + d := by
  induction d generalizing s v with
  | zero => exact ⟨Nat.le_refl _, Nat.le_refl _⟩
  | succ d ih =>
    unfold dg
    split
    · have := ih (s + 1) (imin (nI 1000) (nI 10 * v + b s - nI 48)); omega
    · simp
/-- the next word from s on: begin, end, kind, value -/
def tk1 (b : Nat → Int32) (N s : Nat) : Nat := ws b (N - s) s
def sgn (c : Int32) : Int32 := if c = nI 59 ∨ c = nI 40 ∨ c = nI 41 then nI 3 else nI 4
def sp_readsF (b : Nat → Int32) (F : Nat → Int32) (N s1 : Nat) : Nat → Int32 :=
  let F1 := va_up (va_up F 13 (nI s1)) 14 (nI s1)
  if sn b N s1 = -1 then va_up F1 15 (nI 0)
  else if isAZ (sn b N s1) then va_up (va_up F1 15 (nI 1)) 13 (nI (wd b (N - s1) s1))
  else if is09 (sn b N s1) then va_up (va_up (va_up F1 15 (nI 2)) 16 (dg b (N - s1) s1 (nI 0)).2) 13 (nI (dg b (N - s1) s1 (nI 0)).1)
  else va_up (va_up F1 15 (sgn (sn b N s1))) 13 (nI (s1 + 1))
def sp_reads (b : Nat → Int32) (F : Nat → Int32) : Nat → Int32 := sp_readsF b F (cn (F 10)) (tk1 b (cn (F 10)) (cn (F 13)))
section
variable {b F : Nat → Int32} {N s1 : Nat}
theorem sp_readsF_e (h : sn b N s1 = -1) : sp_readsF b F N s1 = va_up (va_up (va_up F 13 (nI s1)) 14 (nI s1)) 15 (nI 0) := if_pos h
theorem sp_readsF_w (h : ¬ sn b N s1 = -1) (h2 : isAZ (sn b N s1)) : sp_readsF b F N s1 = va_up (va_up (va_up (va_up F 13 (nI s1)) 14 (nI s1)) 15 (nI 1)) 13 (nI (wd b (N - s1) s1)) := (if_neg h).trans (if_pos h2)
theorem sp_readsF_d (h : ¬ sn b N s1 = -1) (h2 : ¬ isAZ (sn b N s1)) (h3 : is09 (sn b N s1)) : sp_readsF b F N s1 = va_up (va_up (va_up (va_up (va_up F 13 (nI s1)) 14 (nI s1)) 15 (nI 2)) 16 (dg b (N - s1) s1 (nI 0)).2) 13 (nI (dg b (N - s1) s1 (nI 0)).1) := (if_neg h).trans ((if_neg h2).trans (if_pos h3))
theorem sp_readsF_s (h : ¬ sn b N s1 = -1) (h2 : ¬ isAZ (sn b N s1)) (h3 : ¬ is09 (sn b N s1)) : sp_readsF b F N s1 = va_up (va_up (va_up (va_up F 13 (nI s1)) 14 (nI s1)) 15 (sgn (sn b N s1))) 13 (nI (s1 + 1)) := (if_neg h).trans ((if_neg h2).trans (if_neg h3))
theorem va_2 {α : Type} (f : Nat → α) {i j : Nat} (v s v' s' : α) (h : i ≠ j) : va_up (va_up (va_up (va_up f i v) j s) i v') j s' = va_up (va_up f i v') j s' := by
  funext q
  unfold va_up
  by_cases h1 : q = i <;> by_cases h2 : q = j <;> simp [h1, h2]
end
/-- the reader's numbers are in order -/
def Pok (F : Nat → Int32) : Prop := lt (F 10) 701 ∧ lt (F 13) 701 ∧ lt (F 14) 701 ∧ cn (F 14) ≤ cn (F 13) ∧ cn (F 13) ≤ cn (F 10)
theorem Pok0.reads {b F : Nat → Int32} (h : lt (F 10) 701 ∧ lt (F 13) 701 ∧ cn (F 13) ≤ cn (F 10)) : Pok (sp_reads b F) := by
  obtain ⟨h1, h2, h5⟩ := h
  have w1 := ws_le b (cn (F 10) - cn (F 13)) (cn (F 13))
  have hN := h1.2
  have key : ∀ (X : Nat → Int32) (e1 e2 : Nat), X 10 = F 10 → X 13 = nI e2 → X 14 = nI e1 → e1 ≤ e2 → e2 ≤ cn (F 10) → Pok X := fun X e1 e2 x10 x13 x14 a1 a2 => by
    have c1 : cn (nI e1) = e1 := cn_nI (by omega)
    have c2 : cn (nI e2) = e2 := cn_nI (by omega)
    refine ⟨by rw [x10]; exact h1, by rw [x13]; exact lt_nI (by omega) (by decide), by rw [x14]; exact lt_nI (by omega) (by decide), by rw [x13, x14, c1, c2]; exact a1, by rw [x13, x10, c2]; exact a2⟩
  unfold sp_reads
  have hs1 : tk1 b (cn (F 10)) (cn (F 13)) ≤ cn (F 10) := by unfold tk1; omega
  generalize tk1 b (cn (F 10)) (cn (F 13)) = s1 at *
  have w2 := wd_le b (cn (F 10) - s1) s1
  have w3 := dg_le b (cn (F 10) - s1) s1 (nI 0)
  by_cases e1 : sn b (cn (F 10)) s1 = -1
  · rw [sp_readsF_e e1]; exact key _ s1 s1 rfl rfl rfl (Nat.le_refl _) hs1
  · have e0 := sn_lt e1
    by_cases e2 : isAZ (sn b (cn (F 10)) s1)
    · rw [sp_readsF_w e1 e2]; exact key _ s1 _ rfl rfl rfl w2.1 (by omega)
    · by_cases e3 : is09 (sn b (cn (F 10)) s1)
      · rw [sp_readsF_d e1 e2 e3]; exact key _ s1 _ rfl rfl rfl w3.1 (by omega)
      · rw [sp_readsF_s e1 e2 e3]; exact key _ s1 (s1 + 1) rfl rfl rfl (by omega) (by omega)
theorem Pok.reads {b F : Nat → Int32} (h : Pok F) : Pok (sp_reads b F) := Pok0.reads ⟨h.1, h.2.1, h.2.2.2.2⟩
theorem va_3 {α : Type} (F : Nat → α) (x y z : α) : va_up (va_up (va_up (va_up F 13 x) 14 y) 15 z) 13 x = va_up (va_up (va_up F 13 x) 14 y) 15 z := by
  funext q
  unfold va_up
  by_cases h1 : q = 13
  · subst h1; simp
  · simp [h1]
theorem va_4 {α : Type} (F : Nat → α) (x y z v : α) : va_up (va_up (va_up (va_up (va_up F 13 x) 14 y) 15 z) 16 v) 13 x = va_up (va_up (va_up (va_up F 13 x) 14 y) 15 z) 16 v := by
  funext q
  unfold va_up
  by_cases h1 : q = 13
  · subst h1; simp
  · simp [h1]
