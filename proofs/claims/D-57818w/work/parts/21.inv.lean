/-! ===== what holds of the row of numbers ===== -/
theorem va_eq {α : Type} (f : Nat → α) (k : Nat) (v : α) : va_up f k v k = v := by unfold va_up; rw [if_pos rfl]
theorem va_ne {α : Type} {f : Nat → α} {j k : Nat} {v : α} (h : k ≠ j) : va_up f j v k = f k := by unfold va_up; rw [if_neg h]
def lt (x : Int32) (b : Nat) : Prop := x = nI (cn x) ∧ cn x < b
theorem lt_nI {a b : Nat} (h : a < b) (hb : b ≤ 2 ^ 31) : lt (nI a) b := by
  have e : cn (nI a) = a := cn_nI (by omega)
  exact ⟨by rw [e], by rw [e]; exact h⟩
theorem lt.le {x : Int32} {a b : Nat} (h : lt x a) (hb : a ≤ b) : lt x b := ⟨h.1, by have := h.2; omega⟩
/-- a name: one to six letters, as a number to the base 27 -/
def isName (x : Int32) : Prop := ∃ ds : List Nat, 1 ≤ ds.length ∧ ds.length ≤ 6 ∧ (∀ d, d ∈ ds → 1 ≤ d ∧ d ≤ 26) ∧ x = nI (ds.foldl (fun a d => 27 * a + d) 0)
def stOK (w : Nat) (x : Int32) : Prop := match w with
  | 0 => isName x | 1 => lt x 10 | 2 => lt x 10 | 3 => lt x 51 | 4 => lt x 201 | 5 => lt x 201 | 8 => lt x 2 | _ => True
def gdOK (w : Nat) (x : Int32) : Prop := match w with
  | 0 => isName x | 1 => lt x 10 | 2 => lt x 10 | 3 => lt x 31 | _ => True
def ctOK (S Gn : Nat) (w : Nat) (x : Int32) : Prop := match w with
  | 0 => lt x 61 | 1 => lt x 10 ∧ 1 ≤ cn x | 2 => lt x S | 3 => lt x Gn | 4 => lt x 31 | _ => True
def lgOK (T : Nat) (w : Nat) (x : Int32) : Prop := match w with
  | 0 => lt x T | 1 => lt x 6 | 2 => lt x 61 | 3 => lt x 2 | _ => True
def cellOK (S Gn Cn T j : Nat) (x : Int32) : Prop := (j = 4 → lt x 4) ∧ (j = 5 → lt x T) ∧ (j = 6 → x = nI S) ∧ (j = 7 → x = nI Gn) ∧ (j = 8 → x = nI Cn) ∧ (j = 15 → lt x 11) ∧ (∀ s w, s < S → w < 9 → j = 16 + 9 * s + w → stOK w x) ∧ (∀ g w, g < Gn → w < 9 → j = 88 + 9 * g + w → gdOK w x) ∧ (∀ c w, c < Cn → w < 5 → j = 142 + 5 * c + w → ctOK S Gn w x) ∧ ∀ k w, k < 10 → w < 4 → j = 172 + 4 * k + w → lgOK T w x
section
variable {S Gn Cn T j : Nat} {x : Int32}
theorem cellOK.w (h : cellOK S Gn Cn T j x) : j = 4 → lt x 4 := h.1
theorem cellOK.t (h : cellOK S Gn Cn T j x) : j = 5 → lt x T := h.2.1
theorem cellOK.s (h : cellOK S Gn Cn T j x) : j = 6 → x = nI S := h.2.2.1
theorem cellOK.g (h : cellOK S Gn Cn T j x) : j = 7 → x = nI Gn := h.2.2.2.1
theorem cellOK.c (h : cellOK S Gn Cn T j x) : j = 8 → x = nI Cn := h.2.2.2.2.1
theorem cellOK.q (h : cellOK S Gn Cn T j x) : j = 15 → lt x 11 := h.2.2.2.2.2.1
theorem cellOK.st (h : cellOK S Gn Cn T j x) : ∀ s w, s < S → w < 9 → j = 16 + 9 * s + w → stOK w x := h.2.2.2.2.2.2.1
theorem cellOK.gd (h : cellOK S Gn Cn T j x) : ∀ g w, g < Gn → w < 9 → j = 88 + 9 * g + w → gdOK w x := h.2.2.2.2.2.2.2.1
theorem cellOK.ct (h : cellOK S Gn Cn T j x) : ∀ c w, c < Cn → w < 5 → j = 142 + 5 * c + w → ctOK S Gn w x := h.2.2.2.2.2.2.2.2.1
theorem cellOK.lg (h : cellOK S Gn Cn T j x) : ∀ k w, k < 10 → w < 4 → j = 172 + 4 * k + w → lgOK T w x := h.2.2.2.2.2.2.2.2.2
end
/-- where the numbers of the map lie -/
def fixd (j : Nat) : Prop := (∃ s w, s < 8 ∧ w < 3 ∧ j = 16 + 9 * s + w) ∨ ∃ g w, g < 6 ∧ w < 3 ∧ j = 88 + 9 * g + w
def Ginv (n : Nat → Int32) (S Gn Cn T : Nat) : Prop := (1 ≤ S) ∧ (S ≤ 8) ∧ (1 ≤ Gn) ∧ (Gn ≤ 6) ∧ (1 ≤ Cn) ∧ (Cn ≤ 6) ∧ (T ≤ 20000) ∧ (∀ j, cellOK S Gn Cn T j (n j)) ∧ (∀ s t, s < S → t < S → n (16 + 9 * s + 1) = n (16 + 9 * t + 1) → n (16 + 9 * s + 2) = n (16 + 9 * t + 2) → s = t) ∧ (∀ s t, s < Gn → t < Gn → n (88 + 9 * s + 1) = n (88 + 9 * t + 1) → n (88 + 9 * s + 2) = n (88 + 9 * t + 2) → s = t) ∧ (∀ s t, s < S → t < Gn → n (16 + 9 * s + 1) = n (88 + 9 * t + 1) → n (16 + 9 * s + 2) = n (88 + 9 * t + 2) → False)
section
variable {n : Nat → Int32} {S Gn Cn T : Nat}
theorem Ginv.S0 (h : Ginv n S Gn Cn T) : 1 ≤ S := h.1
theorem Ginv.S8 (h : Ginv n S Gn Cn T) : S ≤ 8 := h.2.1
theorem Ginv.G0 (h : Ginv n S Gn Cn T) : 1 ≤ Gn := h.2.2.1
theorem Ginv.G6 (h : Ginv n S Gn Cn T) : Gn ≤ 6 := h.2.2.2.1
theorem Ginv.C0 (h : Ginv n S Gn Cn T) : 1 ≤ Cn := h.2.2.2.2.1
theorem Ginv.C6 (h : Ginv n S Gn Cn T) : Cn ≤ 6 := h.2.2.2.2.2.1
theorem Ginv.T0 (h : Ginv n S Gn Cn T) : T ≤ 20000 := h.2.2.2.2.2.2.1
theorem Ginv.cell (h : Ginv n S Gn Cn T) : ∀ j, cellOK S Gn Cn T j (n j) := h.2.2.2.2.2.2.2.1
theorem Ginv.dS (h : Ginv n S Gn Cn T) : ∀ s t, s < S → t < S → n (16 + 9 * s + 1) = n (16 + 9 * t + 1) → n (16 + 9 * s + 2) = n (16 + 9 * t + 2) → s = t := h.2.2.2.2.2.2.2.2.1
theorem Ginv.dG (h : Ginv n S Gn Cn T) : ∀ s t, s < Gn → t < Gn → n (88 + 9 * s + 1) = n (88 + 9 * t + 1) → n (88 + 9 * s + 2) = n (88 + 9 * t + 2) → s = t := h.2.2.2.2.2.2.2.2.2.1
theorem Ginv.dX (h : Ginv n S Gn Cn T) : ∀ s t, s < S → t < Gn → n (16 + 9 * s + 1) = n (88 + 9 * t + 1) → n (16 + 9 * s + 2) = n (88 + 9 * t + 2) → False := h.2.2.2.2.2.2.2.2.2.2
theorem Ginv.s (h : Ginv n S Gn Cn T) : n 6 = nI S := (h.cell 6).s rfl
theorem Ginv.g (h : Ginv n S Gn Cn T) : n 7 = nI Gn := (h.cell 7).g rfl
theorem Ginv.c (h : Ginv n S Gn Cn T) : n 8 = nI Cn := (h.cell 8).c rfl
theorem Ginv.w (h : Ginv n S Gn Cn T) : lt (n 4) 4 := (h.cell 4).w rfl
theorem Ginv.t (h : Ginv n S Gn Cn T) : lt (n 5) T := (h.cell 5).t rfl
theorem Ginv.q (h : Ginv n S Gn Cn T) : lt (n 15) 11 := (h.cell 15).q rfl
theorem Ginv.st (h : Ginv n S Gn Cn T) {s : Nat} (hs : s < S) (w : Nat) (hw : w < 9) : stOK w (n (16 + 9 * s + w)) := (h.cell _).st s w hs hw rfl
theorem Ginv.gd (h : Ginv n S Gn Cn T) {s : Nat} (hs : s < Gn) (w : Nat) (hw : w < 9) : gdOK w (n (88 + 9 * s + w)) := (h.cell _).gd s w hs hw rfl
theorem Ginv.ct (h : Ginv n S Gn Cn T) {s : Nat} (hs : s < Cn) (w : Nat) (hw : w < 5) : ctOK S Gn w (n (142 + 5 * s + w)) := (h.cell _).ct s w hs hw rfl
theorem Ginv.cap (h : Ginv n S Gn Cn T) {c : Nat} (hc : c < Cn) : lt (n (142 + 5 * c)) 61 := h.ct hc 0 (by decide)
theorem Ginv.spd (h : Ginv n S Gn Cn T) {c : Nat} (hc : c < Cn) : lt (n (142 + 5 * c + 1)) 10 ∧ 1 ≤ cn (n (142 + 5 * c + 1)) := h.ct hc 1 (by decide)
theorem Ginv.fr (h : Ginv n S Gn Cn T) {c : Nat} (hc : c < Cn) : lt (n (142 + 5 * c + 2)) S := h.ct hc 2 (by decide)
theorem Ginv.to (h : Ginv n S Gn Cn T) {c : Nat} (hc : c < Cn) : lt (n (142 + 5 * c + 3)) Gn := h.ct hc 3 (by decide)
theorem Ginv.left (h : Ginv n S Gn Cn T) {c : Nat} (hc : c < Cn) : lt (n (142 + 5 * c + 4)) 31 := h.ct hc 4 (by decide)
theorem Ginv.bins (h : Ginv n S Gn Cn T) {s : Nat} (hc : s < S) : lt (n (16 + 9 * s + 5)) 201 := h.st hc 5 (by decide)
theorem Ginv.hh (h : Ginv n S Gn Cn T) {s : Nat} (hc : s < S) : lt (n (16 + 9 * s + 3)) 51 := h.st hc 3 (by decide)
theorem Ginv.room (h : Ginv n S Gn Cn T) {s : Nat} (hc : s < S) : lt (n (16 + 9 * s + 4)) 201 := h.st hc 4 (by decide)
theorem Ginv.up (h : Ginv n S Gn Cn T) {j : Nat} {v : Int32} (hv : cellOK S Gn Cn T j v) (hf : ¬ fixd j) : Ginv (va_up n j v) S Gn Cn T := by
  have hS8 := h.S8
  have hG6 := h.G6
  have e1 : ∀ s w, s < S → w < 3 → va_up n j v (16 + 9 * s + w) = n (16 + 9 * s + w) := fun s w hs hw => va_ne (fun e => hf (Or.inl ⟨s, w, by omega, hw, e.symm⟩))
  have e2 : ∀ s w, s < Gn → w < 3 → va_up n j v (88 + 9 * s + w) = n (88 + 9 * s + w) := fun s w hs hw => va_ne (fun e => hf (Or.inr ⟨s, w, by omega, hw, e.symm⟩))
  refine ⟨h.S0, h.S8, h.G0, h.G6, h.C0, h.C6, h.T0, fun i => ?_, ?_, ?_, ?_⟩
  · by_cases e : i = j
    · subst e; rw [va_eq]; exact hv
    · rw [va_ne e]; exact h.cell i
  · intro s t hs ht; rw [e1 s 1 hs (by decide), e1 t 1 ht (by decide), e1 s 2 hs (by decide), e1 t 2 ht (by decide)]; exact h.dS s t hs ht
  · intro s t hs ht; rw [e2 s 1 hs (by decide), e2 t 1 ht (by decide), e2 s 2 hs (by decide), e2 t 2 ht (by decide)]; exact h.dG s t hs ht
  · intro s t hs ht; rw [e1 s 1 hs (by decide), e2 t 1 ht (by decide), e1 s 2 hs (by decide), e2 t 2 ht (by decide)]; exact h.dX s t hs ht
theorem Ginv.mono (h : Ginv n S Gn Cn T) {T2 : Nat} (hT : T ≤ T2) (h2 : T2 ≤ 20000) : Ginv n S Gn Cn T2 :=
  ⟨h.S0, h.S8, h.G0, h.G6, h.C0, h.C6, h2, fun j => ⟨(h.cell j).w, fun e => ((h.cell j).t e).le hT, (h.cell j).s, (h.cell j).g, (h.cell j).c, (h.cell j).q, (h.cell j).st, (h.cell j).gd, (h.cell j).ct, fun k w hk hw e => by
    have := (h.cell j).lg k w hk hw e
    match w, this with
    | 0, this => exact this.le hT
    | 1, this => exact this
    | 2, this => exact this
    | 3, this => exact this
    | (w + 4), _ => omega⟩, h.dS, h.dG, h.dX⟩
/-- a cell on which nothing rests -/
theorem Ginv.free (h : Ginv n S Gn Cn T) {j : Nat} (v : Int32) (hj : (j = 0 ∨ j = 1 ∨ j = 2 ∨ j = 3 ∨ (9 ≤ j ∧ j ≤ 14)) ∨ (∃ s w, s < 8 ∧ (w = 6 ∨ w = 7) ∧ j = 16 + 9 * s + w) ∨ (∃ g w, g < 6 ∧ 4 ≤ w ∧ w < 9 ∧ j = 88 + 9 * g + w)) : Ginv (va_up n j v) S Gn Cn T := by
  have hS8 := h.S8
  have hG6 := h.G6
  have hC6 := h.C6
  refine h.up ⟨?_, ?_, ?_, ?_, ?_, ?_, ?_, ?_, ?_, ?_⟩ ?_
  · omega
  · omega
  · omega
  · omega
  · omega
  · omega
  · intro s w hs hw e
    match w with
    | 0 | 1 | 2 | 3 | 4 | 5 | 8 => exfalso; omega
    | 6 | 7 => trivial
    | (w + 9) => omega
  · intro s w hs hw e
    match w with
    | 0 | 1 | 2 | 3 => exfalso; omega
    | (w + 4) => trivial
  · intro s w hs hw e; exfalso; omega
  · intro s w hs hw e; exfalso; omega
  · rintro (⟨s, w, h1, h2, h3⟩ | ⟨s, w, h1, h2, h3⟩) <;> omega
end
