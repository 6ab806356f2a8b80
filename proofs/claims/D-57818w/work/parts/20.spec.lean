/-! ===== what the guild's row of numbers does (pure): both sides are held against this ===== -/
def bI (b : Bool) : Int32 := if b then 1 else 0
theorem bI_t {p : Prop} [Decidable p] (h : p) : bI (decide p) = nI 1 := by unfold bI; rw [decide_eq_true h]; rfl
theorem bI_f {p : Prop} [Decidable p] (h : ¬ p) : bI (decide p) = nI 0 := by unfold bI; rw [decide_eq_false h]; rfl
theorem bI_T {b : Bool} (h : b = true) : bI b = nI 1 := by rw [h]; rfl
theorem bI_F {b : Bool} (h : b = false) : bI b = nI 0 := by rw [h]; rfl
theorem bI_Fn {b : Bool} (h : ¬ b = true) : bI b = nI 0 := bI_F (by cases b <;> simp_all)
theorem bI_nar (b : Bool) : narrow FieldType.boolean (Value.int (bI b)) = Value.int (bI b) := by cases b <;> rfl
theorem bI_01 (b : Bool) : bI b = 0 ∨ bI b = 1 := by cases b; exact Or.inl rfl; exact Or.inr rfl
abbrev cn (x : Int32) : Nat := x.toNatClampNeg
theorem cn_nI {a : Nat} (h : a < 2 ^ 31) : cn (nI a) = a := nI_clamp h
/-- x is one of the numbers below N -/
abbrev isIn (x : Int32) (N : Nat) : Prop := 0 ≤ x ∧ x ≤ nI N - nI 1
theorem isIn_of {x : Int32} {N : Nat} (hN : 1 ≤ N) (hb : N < 2 ^ 30) (h : isIn x N) : ∃ j, j < N ∧ x = nI j := by
  obtain ⟨h0, h1⟩ := h
  obtain ⟨j, hj, rfl⟩ := nI_of (x := x) (Int32.not_lt.mpr h0)
  rw [pk_sub hN] at h1
  have := (nI_leI hj (by omega)).mp h1
  exact ⟨j, by omega, rfl⟩
theorem isIn_nI {j N : Nat} (h : j < N) (hb : N < 2 ^ 30) : isIn (nI j) N := by
  refine ⟨nI_pos' (by omega), ?_⟩
  rw [pk_sub (by omega)]
  exact nI_le (by omega) (by omega)
theorem nIn_lo {x : Int32} {N : Nat} (h : ¬ 0 ≤ x) : ¬ isIn x N := fun q => h q.1
theorem nIn_hi {x : Int32} {N : Nat} (h : ¬ x ≤ nI N - nI 1) : ¬ isIn x N := fun q => h q.2
def sp_hours (n : Nat → Int32) (c s g : Nat) : Int32 :=
  (n (16 + 9 * s + 1) + n (16 + 9 * s + 2) + iabs (n (16 + 9 * s + 1) - n (88 + 9 * g + 1)) + iabs (n (16 + 9 * s + 2) - n (88 + 9 * g + 2)) + n (142 + 5 * c + 1) - 1) / n (142 + 5 * c + 1)
def sp_wind (n : Nat → Int32) : Nat := (cn (n 4) + cn (n 5)) % 4
def sp_along (w : Nat) (right down : Int32) : Int32 := if w = 0 then -down else if w = 1 then right else if w = 2 then down else -right
def sp_beside (w : Nat) (right down : Int32) : Int32 := if w % 2 = 0 then right else down
def sp_smells (n : Nat → Int32) (f : Nat) (u : Int32) (t : Nat) : Bool :=
  decide (sp_beside (sp_wind n) (n (16 + 9 * t + 1) - n (16 + 9 * f + 1)) (n (16 + 9 * t + 2) - n (16 + 9 * f + 2)) = 0 ∧ 1 ≤ sp_along (sp_wind n) (n (16 + 9 * t + 1) - n (16 + 9 * f + 1)) (n (16 + 9 * t + 2) - n (16 + 9 * f + 2)) ∧ sp_along (sp_wind n) (n (16 + 9 * t + 1) - n (16 + 9 * f + 1)) (n (16 + 9 * t + 2) - n (16 + 9 * f + 2)) ≤ u / 10)
abbrev fr (n : Nat → Int32) (c : Nat) : Nat := cn (n (142 + 5 * c + 2))
abbrev to (n : Nat → Int32) (c : Nat) : Nat := cn (n (142 + 5 * c + 3))
def sp_load (n : Nat → Int32) (c : Nat) : Int32 := if 0 < n (142 + 5 * c + 4) then imin (n (142 + 5 * c)) (n (16 + 9 * fr n c + 5)) else 0
def sp_late (n : Nat → Int32) (c : Nat) : Bool := decide (n 0 < sp_hours n c (fr n c) (to n c))
def sp_gather (n : Nat → Int32) (s : Nat) : Nat → Int32 :=
  let o := imax 0 (n (16 + 9 * s + 5) + n (16 + 9 * s + 3) - n (16 + 9 * s + 4))
  let n1 := va_up n (16 + 9 * s + 5) (n (16 + 9 * s + 5) + (n (16 + 9 * s + 3) - o))
  let n2 := va_up n1 (16 + 9 * s + 6) (n1 (16 + 9 * s + 6) + o)
  let n3 := va_up n2 10 (n2 10 + n (16 + 9 * s + 3))
  va_up n3 (16 + 9 * s + 8) 0
def sp_gathers (n : Nat → Int32) : Nat → Nat → Int32
  | 0 => n
  | k + 1 => sp_gather (sp_gathers n k) k
def sp_begin (n : Nat → Int32) (S : Nat) : Nat → Int32 := sp_gathers (va_up n 5 (n 5 + 1)) S
def sp_shift (n : Nat → Int32) (k : Nat) : Nat → Int32 := fun j => if 172 ≤ j ∧ j < k then n (j + 4) else n j
def sp_log0 (n : Nat → Int32) : Nat → Int32 := if cn (n 15) = 10 then va_up (sp_shift n 208) 15 (nI 9) else n
def sp_log (n : Nat → Int32) (c : Nat) (load late : Int32) : Nat → Int32 :=
  let n1 := sp_log0 n
  let p := 172 + 4 * cn (n1 15)
  let n2 := va_up n1 p (n1 5)
  let n3 := va_up n2 (p + 1) (nI c)
  let n4 := va_up n3 (p + 2) load
  let n5 := va_up n4 (p + 3) late
  va_up n5 15 (n5 15 + 1)
def sp_earn (n : Nat → Int32) (x : Int32) : Nat → Int32 :=
  let n1 := va_up n 9 (n 9 + x)
  va_up n1 14 (n1 14 + x)
def sp_smell1 (n : Nat → Int32) (f : Nat) (u : Int32) (k : Nat) : Nat → Int32 := if sp_smells n f u k = true then va_up n (16 + 9 * k + 7) (n (16 + 9 * k + 7) + 1) else n
def sp_smellN (n : Nat → Int32) (f : Nat) (u : Int32) : Nat → Nat → Int32
  | 0 => n
  | k + 1 => sp_smell1 (sp_smellN n f u k) f u k
def sp_lates (n : Nat → Int32) (c : Nat) : Nat → Int32 := if sp_late n c = true then (let m := sp_earn n (-n 2); va_up m 13 (m 13 + 1)) else n
def sp_deliver1 (n : Nat → Int32) (S c : Nat) (load : Int32) : Nat → Int32 :=
  let f := fr n c
  let t := to n c
  let n1 := va_up n (16 + 9 * f + 5) (n (16 + 9 * f + 5) + -load)
  let n2 := va_up n1 (16 + 9 * f + 8) 1
  let n3 := va_up n2 (88 + 9 * t + 4) (n2 (88 + 9 * t + 4) + load)
  let n4 := sp_earn n3 (load * n3 1)
  let n5 := sp_lates n4 c
  let n6 := va_up n5 11 (n5 11 + load)
  let n7 := va_up n6 12 (n6 12 + 1)
  let n8 := sp_log n7 c load (bI (sp_late n7 c))
  sp_smellN n8 f load S
def sp_deliver (n : Nat → Int32) (S c : Nat) : Nat → Int32 := if sp_load n c = 0 then n else sp_deliver1 n S c (sp_load n c)
def sp_delivers (n : Nat → Int32) (S : Nat) : Nat → Nat → Int32
  | 0 => n
  | k + 1 => sp_deliver (sp_delivers n S k) S k
def sp_bloom (n : Nat → Int32) (g : Nat) : Nat → Int32 :=
  let p := imin (n (88 + 9 * g + 3)) (n (88 + 9 * g + 4))
  let n1 := va_up n (88 + 9 * g + 4) (n (88 + 9 * g + 4) + -p)
  let n2 := va_up n1 (88 + 9 * g + 5) (n1 (88 + 9 * g + 5) + p)
  let n3 := va_up n2 (88 + 9 * g + 6) (n2 (88 + 9 * g + 6) + p)
  let o := imax 0 (n3 (88 + 9 * g + 4) - 3 * n3 (88 + 9 * g + 3))
  let n4 := va_up n3 (88 + 9 * g + 4) (n3 (88 + 9 * g + 4) + -o)
  va_up n4 (88 + 9 * g + 7) (n4 (88 + 9 * g + 7) + o)
def sp_blooms (n : Nat → Int32) : Nat → Nat → Int32
  | 0 => n
  | k + 1 => sp_bloom (sp_blooms n k) k
def sp_bv (n : Nat → Int32) : Option Nat → Int32
  | none => 0
  | some j => n (88 + 9 * j + 6)
def sp_best1 (n : Nat → Int32) (b : Option Nat) (k : Nat) : Option Nat := if sp_bv n b < n (88 + 9 * k + 6) then some k else b
def sp_best (n : Nat → Int32) : Nat → Option Nat
  | 0 => none
  | k + 1 => sp_best1 n (sp_best n k) k
def oI : Option Nat → Int32
  | none => -1
  | some j => nI j
def sp_zeroN (n : Nat → Int32) : Nat → Nat → Int32
  | 0 => n
  | k + 1 => va_up (sp_zeroN n k) (88 + 9 * k + 6) 0
def sp_awn (n : Nat → Int32) (Gn : Nat) : Nat → Int32 := match sp_best n Gn with
    | none => n
    | some w => let m := va_up n (88 + 9 * w + 8) (n (88 + 9 * w + 8) + 1); sp_earn m (-m 3)
def sp_award (n : Nat → Int32) (Gn : Nat) : Nat → Int32 := sp_zeroN (sp_awn n Gn) Gn
def sp_expire1 (n : Nat → Int32) (k : Nat) : Nat → Int32 := if 0 < n (142 + 5 * k + 4) then va_up n (142 + 5 * k + 4) (n (142 + 5 * k + 4) - 1) else n
def sp_expireN (n : Nat → Int32) : Nat → Nat → Int32
  | 0 => n
  | k + 1 => sp_expire1 (sp_expireN n k) k
/-- one night, of S streets, Gn gardens, Cn carts -/
def sp_night4 (n : Nat → Int32) (S Gn Cn : Nat) : Nat → Int32 := sp_expireN (sp_blooms (sp_delivers (sp_begin n S) S Cn) Gn) Cn
def sp_night (n : Nat → Int32) (S Gn Cn : Nat) : Nat → Int32 :=
  if cn (sp_night4 n S Gn Cn 5) % 7 = 0 then sp_award (sp_night4 n S Gn Cn) Gn else sp_night4 n S Gn Cn
/-- the reference's numbers after a night: the winner of the latest prize night is kept -/
def sp_nightF (F n : Nat → Int32) (S Gn Cn : Nat) : Nat → Int32 :=
  if cn (sp_night4 n S Gn Cn 5) % 7 = 0 then va_up F 8 (oI (sp_best (sp_night4 n S Gn Cn) Gn)) else F
theorem sp_night_p {n : Nat → Int32} {S Gn Cn : Nat} (h : cn (sp_night4 n S Gn Cn 5) % 7 = 0) : sp_night n S Gn Cn = sp_award (sp_night4 n S Gn Cn) Gn := if_pos h
theorem sp_night_n {n : Nat → Int32} {S Gn Cn : Nat} (h : ¬ cn (sp_night4 n S Gn Cn 5) % 7 = 0) : sp_night n S Gn Cn = sp_night4 n S Gn Cn := if_neg h
theorem sp_nightF_p {F n : Nat → Int32} {S Gn Cn : Nat} (h : cn (sp_night4 n S Gn Cn 5) % 7 = 0) : sp_nightF F n S Gn Cn = va_up F 8 (oI (sp_best (sp_night4 n S Gn Cn) Gn)) := if_pos h
theorem sp_nightF_n {F n : Nat → Int32} {S Gn Cn : Nat} (h : ¬ cn (sp_night4 n S Gn Cn 5) % 7 = 0) : sp_nightF F n S Gn Cn = F := if_neg h
def sp_nights (n : Nat → Int32) (S Gn Cn : Nat) : Nat → Nat → Int32
  | 0 => n
  | k + 1 => sp_night (sp_nights n S Gn Cn k) S Gn Cn
def sp_nightsF (F n : Nat → Int32) (S Gn Cn : Nat) : Nat → Nat → Int32
  | 0 => F
  | k + 1 => sp_nightF (sp_nightsF F n S Gn Cn k) (sp_nights n S Gn Cn k) S Gn Cn
/-- f's first k places, laid from a on over g -/
def sp_cp (a : Nat) (f g : Nat → Int32) : Nat → Nat → Int32
  | 0 => g
  | k + 1 => va_up (sp_cp a f g k) (a + k) (f k)
theorem i_le {a b : Int32} (h : ¬ a < b) : b ≤ a := Int32.not_lt.mp h
theorem i_nle {a b : Int32} (h : a < b) : ¬ b ≤ a := fun q => Int32.not_lt.mpr q h
theorem i_lt {a b : Int32} (h : ¬ a ≤ b) : b < a := Int32.not_le.mp h
theorem i_nlt {a b : Int32} (h : a ≤ b) : ¬ b < a := fun q => Int32.not_le.mpr q h
