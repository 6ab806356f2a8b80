/-! ===== the reader's steps, as the reference has them (pure) ===== -/
def sp_must (F : Nat → Int32) (b : Bool) (its : Int32) : Nat → Int32 := if F 17 = 0 ∧ b = false then va_up (va_up F 17 its) 18 (F 14) else F
def sp_on (b F : Nat → Int32) : Nat → Int32 := if F 17 = 0 then sp_reads b F else F
def sp_isSign (b F : Nat → Int32) (c : Int32) : Bool := decide (F 17 = 0 ∧ F 15 = nI 3 ∧ sn b (cn (F 10)) (cn (F 14)) = c)
def sp_sign (b F : Nat → Int32) (c : Int32) : Nat → Int32 := sp_on b (sp_must F (sp_isSign b F c) 1)
def sp_look1 (F : Nat → Int32) (lo hi : Int32) : Nat → Int32 := if F 17 = 0 then sp_must F (decide (lo ≤ F 16 ∧ F 16 ≤ hi)) 2 else F
def sp_look (F : Nat → Int32) (lo hi : Int32) : Nat → Int32 := sp_look1 (sp_must F (decide (F 15 = nI 2)) 1) lo hi
def sp_num (b F : Nat → Int32) (lo hi : Int32) : Nat → Int32 := sp_on b (sp_look F lo hi)
def pk (b : Nat → Int32) (a : Nat) : Nat → Int32
  | 0 => nI 0
  | k + 1 => nI 27 * pk b a k + b (a + k) - nI 96
def sp_lname1 (F : Nat → Int32) : Nat → Int32 := if F 17 = 0 then sp_must F (decide (F 13 - F 14 ≤ nI 6)) 2 else F
def sp_lname (F : Nat → Int32) : Nat → Int32 := sp_lname1 (sp_must F (decide (F 15 = nI 1)) 1)
def sp_lnv (b F : Nat → Int32) : Int32 := if F 17 = 0 then pk b (cn (F 14)) (cn (F 13) - cn (F 14)) else nI 0
def sp_find (n : Nat → Int32) (a : Nat) (x : Int32) : Nat → Nat → Option Nat
  | 0, _ => none
  | d + 1, s => if n (a + 9 * s) = x then some s else sp_find n a x d (s + 1)
def sp_on2 (n : Nat → Int32) (a : Nat) (x y : Int32) : Nat → Nat → Option Nat
  | 0, _ => none
  | d + 1, s => if n (a + 9 * s + 1) = x ∧ n (a + 9 * s + 2) = y then some s else sp_on2 n a x y d (s + 1)
theorem sp_find_lt {n : Nat → Int32} {a : Nat} {x : Int32} {d s j : Nat} (h : sp_find n a x d s = some j) : j < s + d := by
  induction d generalizing s with
  | zero => cases h
  | succ d ih =>
    unfold sp_find at h
    split at h
    · have := Option.some.inj h; omega
    · have := ih h; omega
theorem sp_find_go {n : Nat → Int32} {a : Nat} {x : Int32} {S s : Nat} (hs : s < S) (h : ¬ n (a + 9 * s) = x) : sp_find n a x (S - s) s = sp_find n a x (S - (s + 1)) (s + 1) := by
  have e : S - s = (S - (s + 1)) + 1 := by omega
  rw [e]; exact if_neg h
theorem sp_find_hit {n : Nat → Int32} {a : Nat} {x : Int32} {S s : Nat} (hs : s < S) (h : n (a + 9 * s) = x) : sp_find n a x (S - s) s = some s := by
  have e : S - s = (S - (s + 1)) + 1 := by omega
  rw [e]; exact if_pos h
theorem sp_find_end {n : Nat → Int32} {a : Nat} {x : Int32} {S s : Nat} (hs : S ≤ s) : sp_find n a x (S - s) s = none := by
  have e : S - s = 0 := by omega
  rw [e]; rfl
theorem sp_on2_go {n : Nat → Int32} {a : Nat} {x y : Int32} {S s : Nat} (hs : s < S) (h : ¬ (n (a + 9 * s + 1) = x ∧ n (a + 9 * s + 2) = y)) : sp_on2 n a x y (S - s) s = sp_on2 n a x y (S - (s + 1)) (s + 1) := by
  have e : S - s = (S - (s + 1)) + 1 := by omega
  rw [e]; exact if_neg h
theorem sp_on2_hit {n : Nat → Int32} {a : Nat} {x y : Int32} {S s : Nat} (hs : s < S) (h : n (a + 9 * s + 1) = x ∧ n (a + 9 * s + 2) = y) : sp_on2 n a x y (S - s) s = some s := by
  have e : S - s = (S - (s + 1)) + 1 := by omega
  rw [e]; exact if_pos h
theorem sp_on2_end {n : Nat → Int32} {a : Nat} {x y : Int32} {S s : Nat} (hs : S ≤ s) : sp_on2 n a x y (S - s) s = none := by
  have e : S - s = 0 := by omega
  rw [e]; rfl
theorem sp_on2_lt {n : Nat → Int32} {a : Nat} {x y : Int32} {d s j : Nat} (h : sp_on2 n a x y d s = some j) : j < s + d := by
  induction d generalizing s with
  | zero => cases h
  | succ d ih =>
    unfold sp_on2 at h
    split at h
    · have := Option.some.inj h; omega
    · have := ih h; omega
def sp_taken (n : Nat → Int32) (S Gn : Nat) (x y : Int32) : Bool := (sp_on2 n 88 x y Gn 0).isSome || (sp_on2 n 16 x y S 0).isSome
theorem sp_must_k (F : Nat → Int32) (b : Bool) (i : Int32) {k : Nat} (h1 : k ≠ 17) (h2 : k ≠ 18) : sp_must F b i k = F k := by
  unfold sp_must
  split
  · rw [va_ne h2, va_ne h1]
  · rfl
theorem Pok.same {F X : Nat → Int32} (h : Pok F) (e0 : X 10 = F 10) (e1 : X 13 = F 13) (e2 : X 14 = F 14) : Pok X := by
  unfold Pok
  rw [e0, e1, e2]
  exact h
theorem Pok.must {F : Nat → Int32} (h : Pok F) (b : Bool) (i : Int32) : Pok (sp_must F b i) := h.same (sp_must_k _ _ _ (by decide) (by decide)) (sp_must_k _ _ _ (by decide) (by decide)) (sp_must_k _ _ _ (by decide) (by decide))
theorem Pok.on {F : Nat → Int32} (h : Pok F) (b : Nat → Int32) : Pok (sp_on b F) := by
  unfold sp_on
  split
  · exact h.reads
  · exact h
theorem Pok.look {F : Nat → Int32} (h : Pok F) (lo hi : Int32) : Pok (sp_look F lo hi) := by
  unfold sp_look sp_look1
  split
  · exact (h.must _ _).must _ _
  · exact h.must _ _
theorem Pok.lname {F : Nat → Int32} (h : Pok F) : Pok (sp_lname F) := by
  unfold sp_lname sp_lname1
  split
  · exact (h.must _ _).must _ _
  · exact h.must _ _
theorem Pok.sign {F : Nat → Int32} (h : Pok F) (b : Nat → Int32) (c : Int32) : Pok (sp_sign b F c) := (h.must _ _).on b
theorem Pok.num {F : Nat → Int32} (h : Pok F) (b : Nat → Int32) (lo hi : Int32) : Pok (sp_num b F lo hi) := (h.look _ _).on b
theorem Pok.up {F : Nat → Int32} (h : Pok F) {k : Nat} (v : Int32) (h1 : k ≠ 10) (h2 : k ≠ 13) (h3 : k ≠ 14) : Pok (va_up F k v) := h.same (va_ne h1.symm) (va_ne h2.symm) (va_ne h3.symm)
/-- enough for a reading -/
def Pok0 (F : Nat → Int32) : Prop := lt (F 10) 701 ∧ lt (F 13) 701 ∧ cn (F 13) ≤ cn (F 10)
theorem Pok.p0 {F : Nat → Int32} (h : Pok F) : Pok0 F := ⟨h.1, h.2.1, h.2.2.2.2⟩
def sp_starts (b F : Nat → Int32) : Nat → Int32 := sp_reads b (va_up (va_up (va_up F 13 (nI 0)) 17 (nI 0)) 18 (-1))
theorem sp_starts_ok {F : Nat → Int32} (b : Nat → Int32) (h : lt (F 10) 701) : Pok (sp_starts b F) := Pok0.reads ⟨h, lt_nI (a := 0) (by decide) (by decide), Nat.zero_le _⟩
theorem sp_must_n {F : Nat → Int32} {b : Bool} {i : Int32} (h : ¬ (F 17 = 0 ∧ b = false)) : sp_must F b i = F := if_neg h
theorem sp_must_y {F : Nat → Int32} {b : Bool} {i : Int32} (h : F 17 = 0) (h2 : b = false) : sp_must F b i = va_up (va_up F 17 i) 18 (F 14) := if_pos ⟨h, h2⟩
theorem sp_on_n {b F : Nat → Int32} (h : ¬ F 17 = 0) : sp_on b F = F := if_neg h
theorem sp_on_y {b F : Nat → Int32} (h : F 17 = 0) : sp_on b F = sp_reads b F := if_pos h
theorem oI_isS {n : Nat → Int32} {a S : Nat} {x y : Int32} (hS : S < 2 ^ 31) : (((none : Option Nat).isSome) || (sp_on2 n a x y S 0).isSome) = decide (¬ oI (sp_on2 n a x y S 0) = -1) := by
  cases e : sp_on2 n a x y S 0 with
  | none => rfl
  | some j =>
    have := sp_on2_lt e
    exact (decide_eq_true (oI_ne (j := j) (by omega))).symm
def sp_isWord (b F : Nat → Int32) (t : List Nat) : Bool := decide (F 17 = 0 ∧ F 15 = nI 1 ∧ cn (F 13) - cn (F 14) = t.length ∧ ∀ i, i < t.length → b (cn (F 14) + i) = nI (t.getD i 0))
