/-! ===== tools of the walks: Math, names of heaps, numbers at branches ===== -/
def imax (x y : Int32) : Int32 := if x < y then y else x
def imin (x y : Int32) : Int32 := if y < x then y else x
def iabs (x : Int32) : Int32 := if 0 ≤ x then x else 0 - x
section XT
variable {G : xG} {E : xE} {y : MethodName} {cc : ByteArray} {nL : Nat} {ret : Option FieldType} {hh : xH_} {n mc ms mc' ms' : Nat} {h h1 : xAH} {pc index : Nat} {L : List (Nat × Value)} {st : List Value}
theorem x_room1 (C : xC G E y cc nL ret hh n) (hn : 1 ≤ n) (hw : (st.map fun v => v.category).sum ≤ 8) : 1 ≤ (xER E).frames ∧ (st.map fun v => v.category).sum + 13 ≤ (xER E).locals := by
  have e1 : (xER E).frames = n := C.2.2.2.2.2.2.2.2.2.2.1
  have e2 : (xER E).locals = 64 * n := C.2.2.2.2.2.2.2.2.2.2.2.1
  exact ⟨by omega, by omega⟩
theorem x_max (C : xC G E y cc nL ret hh n) {a b : Int32} (d : decode cc pc = .ok (.invokestatic index, 3)) (q1 : Cond.methodLink y.cls index Lib.Math.max.name ∈ lw_all) (q2 : Cond.static Lib.Math.max.name ∈ lw_all) (q3 : Cond.initialized "java/lang/Math" ∈ lw_all) (q4 : Cond.code Lib.Math.max.name Lib.Math.max.code 2 (some .int) ∈ lw_all) (hn : 1 ≤ n) (hw : (st.map fun v => v.category).sum ≤ 8) (k : xW G E nL mc ms h (pc + 3) L (.int (imax a b) :: st)) : xW G E nL mc ms h pc L (.int b :: .int a :: st) := fun H locs cells slots ls hR hF hc hs hl =>
  va_mmax C.1 C.2.1 (by rw [C.2.2.2.2.1]; exact hl.1.symm) C.own (C.ts _ q1) (C.ts _ q2) (C.ts _ q3) (C.ts _ q4) (x_room1 C hn hw).1 (x_room1 C hn hw).2 (Nat.le_trans (Nat.le_add_right _ _) hc) (Nat.le_trans (Nat.le_add_right _ _) hs) d (k H locs cells slots ls hR hF hc hs hl)
theorem x_min (C : xC G E y cc nL ret hh n) {a b : Int32} (d : decode cc pc = .ok (.invokestatic index, 3)) (q1 : Cond.methodLink y.cls index Lib.Math.min.name ∈ lw_all) (q2 : Cond.static Lib.Math.min.name ∈ lw_all) (q3 : Cond.initialized "java/lang/Math" ∈ lw_all) (q4 : Cond.code Lib.Math.min.name Lib.Math.min.code 2 (some .int) ∈ lw_all) (hn : 1 ≤ n) (hw : (st.map fun v => v.category).sum ≤ 8) (k : xW G E nL mc ms h (pc + 3) L (.int (imin a b) :: st)) : xW G E nL mc ms h pc L (.int b :: .int a :: st) := fun H locs cells slots ls hR hF hc hs hl =>
  va_mmin C.1 C.2.1 (by rw [C.2.2.2.2.1]; exact hl.1.symm) C.own (C.ts _ q1) (C.ts _ q2) (C.ts _ q3) (C.ts _ q4) (x_room1 C hn hw).1 (x_room1 C hn hw).2 (Nat.le_trans (Nat.le_add_right _ _) hc) (Nat.le_trans (Nat.le_add_right _ _) hs) d (k H locs cells slots ls hR hF hc hs hl)
theorem x_abs (C : xC G E y cc nL ret hh n) {a : Int32} (d : decode cc pc = .ok (.invokestatic index, 3)) (q1 : Cond.methodLink y.cls index Lib.Math.abs.name ∈ lw_all) (q2 : Cond.static Lib.Math.abs.name ∈ lw_all) (q3 : Cond.initialized "java/lang/Math" ∈ lw_all) (q4 : Cond.code Lib.Math.abs.name Lib.Math.abs.code 1 (some .int) ∈ lw_all) (hn : 1 ≤ n) (hw : (st.map fun v => v.category).sum ≤ 8) (k : xW G E nL mc ms h (pc + 3) L (.int (iabs a) :: st)) : xW G E nL mc ms h pc L (.int a :: st) := fun H locs cells slots ls hR hF hc hs hl =>
  va_mabs C.1 C.2.1 (by rw [C.2.2.2.2.1]; exact hl.1.symm) C.own (C.ts _ q1) (C.ts _ q2) (C.ts _ q3) (C.ts _ q4) (x_room1 C hn hw).1 (x_room1 C hn hw).2 (Nat.le_trans (Nat.le_add_right _ _) hc) (Nat.le_trans (Nat.le_add_right _ _) hs) d (k H locs cells slots ls hR hF hc hs hl)
theorem xset_new {a : Nat} {o : xO} (e : h1 = xset h a o) : h1 a = some o := by rw [e]; exact xset_self h a o
theorem xset_old {a q : Nat} {o o' : xO} (hq : h q = some o') (hne : q ≠ a) (e : h1 = xset h a o) : h1 q = some o' := by rw [e, xset_ne hne]; exact hq
theorem xH.set {a q : Nat} {o o' : xO} (hq : xH G h q o') (hne : q ≠ a) (e : h1 = xset h a o) : xH G h1 q o' := by
  rcases hq with hq | hq
  · exact Or.inl (xset_old hq hne e)
  · exact Or.inr hq
/-- the class of a thing: an object's number, or an array's kind -/
def xk : xO → Nat × Nat
  | .inl c => (0, c.1)
  | .inr a => (1, a.1)
theorem ne_cls {a b : Nat} {o o' : xO} (h1 : h a = some o) (h2 : h b = some o') (hk : xk o ≠ xk o') : a ≠ b := by
  intro e
  rw [e, h2] at h1
  exact hk (by rw [Option.some.inj h1])
theorem ne_clsC (C : xC G E y cc nL ret hh n) {a b : Nat} {o o' : xO} (h1 : xH G h a o) (h2 : h b = some o') (hk : xk o ≠ xk o') (hb : xz G ≤ b) : a ≠ b := by
  rcases h1 with h1 | h1
  · exact ne_cls h1 h2 hk
  · intro e
    have := (C.I.2.2.2.2.2.2.2.2.2.2.1 a o h1).1
    omega
theorem ne_fresh {a q : Nat} {o : xO} (h1 : xH G h q o) (h2 : h a = none) (hz : xz G ≤ a) (C : xC G E y cc nL ret hh n) : q ≠ a := by
  intro e
  rcases h1 with h1 | h1
  · rw [e, h2] at h1; cases h1
  · have := (C.I.2.2.2.2.2.2.2.2.2.2.1 q o h1).1
    omega
end XT
theorem ne_new {h : xAH} {a q : Nat} {o : xO} (h1 : h q = some o) (h2 : h a = none) : q ≠ a := by
  intro e
  rw [e, h2] at h1
  cases h1
/-! numbers at branches: the rows' hypotheses over Nat -/
theorem xn_eqT (a b : Nat) (h : nI a = nI b) (ha : a < 2 ^ 31) (hb : b < 2 ^ 31) : a = b := (nI_eq ha hb).mp h
theorem xn_eqF (a b : Nat) (h : ¬ nI a = nI b) (_ : a < 2 ^ 31) (_ : b < 2 ^ 31) : a ≠ b := fun e => h (by rw [e])
theorem xn_neT (a b : Nat) (h : ¬ nI a = nI b) (_ : a < 2 ^ 31) (_ : b < 2 ^ 31) : a ≠ b := fun e => h (by rw [e])
theorem xn_neF (a b : Nat) (h : nI a = nI b) (ha : a < 2 ^ 31) (hb : b < 2 ^ 31) : a = b := (nI_eq ha hb).mp h
theorem xn_ltT (a b : Nat) (h : nI a < nI b) (ha : a < 2 ^ 31) (hb : b < 2 ^ 31) : a < b := (nI_ltI ha hb).mp h
theorem xn_ltF (a b : Nat) (h : ¬ nI a < nI b) (ha : a < 2 ^ 31) (hb : b < 2 ^ 31) : b ≤ a := Nat.not_lt.mp fun q => h ((nI_ltI ha hb).mpr q)
theorem xn_geT (a b : Nat) (h : nI b ≤ nI a) (ha : a < 2 ^ 31) (hb : b < 2 ^ 31) : b ≤ a := (nI_leI hb ha).mp h
theorem xn_geF (a b : Nat) (h : ¬ nI b ≤ nI a) (ha : a < 2 ^ 31) (hb : b < 2 ^ 31) : a < b := Nat.not_le.mp fun q => h ((nI_leI hb ha).mpr q)
theorem xn_gtT (a b : Nat) (h : nI b < nI a) (ha : a < 2 ^ 31) (hb : b < 2 ^ 31) : b < a := (nI_ltI hb ha).mp h
theorem xn_gtF (a b : Nat) (h : ¬ nI b < nI a) (ha : a < 2 ^ 31) (hb : b < 2 ^ 31) : a ≤ b := Nat.not_lt.mp fun q => h ((nI_ltI hb ha).mpr q)
theorem xn_leT (a b : Nat) (h : nI a ≤ nI b) (ha : a < 2 ^ 31) (hb : b < 2 ^ 31) : a ≤ b := (nI_leI ha hb).mp h
theorem xn_leF (a b : Nat) (h : ¬ nI a ≤ nI b) (ha : a < 2 ^ 31) (hb : b < 2 ^ 31) : b < a := Nat.not_le.mp fun q => h ((nI_leI ha hb).mpr q)
def xsub (L : List (Nat × Value)) : List (Nat × Value) → Prop
  | [] => True
  | q :: l => xget L q.1 = some q.2 ∧ xsub L l
theorem xsub_all {L : List (Nat × Value)} : ∀ {l : List (Nat × Value)}, xsub L l → ∀ q ∈ l, xget L q.1 = some q.2
  | [], _, q, hq => by cases hq
  | p :: l, h, q, hq => by
    cases hq with
    | head => exact h.1
    | tail _ hq => exact xsub_all h.2 q hq
theorem x_locs2 {G : xG} {E : xE} {nL mc ms : Nat} {h : xAH} {pc : Nat} {L : List (Nat × Value)} {st : List Value} (L' : List (Nat × Value)) (hv : xsub L L') (k : xW G E nL mc ms h pc L' st) : xW G E nL mc ms h pc L st :=
  x_locs L' (by rw [List.all_eq_true]; exact fun q hq => by rw [xsub_all hv q hq]; rfl) (xsub_all hv) k
