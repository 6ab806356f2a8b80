/-! ===== rows ===== -/
def xget : List (Nat × Value) → Nat → Option Value
  | [], _ => none
  | q :: l, i => bif Nat.beq q.1 i then some q.2 else xget l i
def xhas : List (Nat × Value) → Nat → Bool
  | [], _ => false
  | q :: l, i => bif Nat.beq q.1 i then true else xhas l i
def xmap : List (Nat × Value) → Nat → Value → List (Nat × Value)
  | [], _, _ => []
  | q :: l, i, v => (bif Nat.beq q.1 i then (i, v) else q) :: xmap l i v
def xput (L : List (Nat × Value)) (i : Nat) (v : Value) : List (Nat × Value) := bif xhas L i then xmap L i v else (i, v) :: L
def xok (L : List (Nat × Value)) (i : Nat) : Bool := L.all (fun q => !(q.1 + 1 == i && q.2.category == 2))
theorem xget_mem {L : List (Nat × Value)} {i : Nat} {v : Value} (h : xget L i = some v) : (i, v) ∈ L := by
  induction L with
  | nil => cases h
  | cons q l ih =>
    unfold xget at h
    cases hb : Nat.beq q.1 i with
    | true =>
      rw [hb] at h
      have e : q.1 = i := Nat.eq_of_beq_eq_true hb
      have e2 : q.2 = v := Option.some.inj h
      rw [← e, ← e2]
      exact List.mem_cons_self
    | false =>
      rw [hb] at h
      exact List.mem_cons_of_mem _ (ih h)
theorem xget_has {ls : Array Slot} {nL : Nat} {L : List (Nat × Value)} {i : Nat} {v : Value} (hl : lv_has ls nL L) (h : xget L i = some v) : ls[i]? = some (.val v) := hl.2.2 _ (xget_mem h)
theorem xmap_mem {L : List (Nat × Value)} {i : Nat} {v : Value} {q : Nat × Value} (h : q ∈ xmap L i v) : q = (i, v) ∨ (q ∈ L ∧ q.1 ≠ i) := by
  induction L with
  | nil => cases h
  | cons p l ih =>
    unfold xmap at h
    rcases List.mem_cons.mp h with e | h
    · cases hb : Nat.beq p.1 i with
      | true => rw [hb] at e; exact Or.inl e
      | false =>
        rw [hb] at e
        have e' : q = p := e
        refine Or.inr ⟨by rw [e']; exact List.mem_cons_self, fun h2 => ?_⟩
        rw [e'] at h2
        rw [h2, Nat.beq_refl] at hb
        cases hb
    · rcases ih h with h | ⟨h1, h2⟩
      · exact Or.inl h
      · exact Or.inr ⟨List.mem_cons_of_mem _ h1, h2⟩
theorem xhas_no {L : List (Nat × Value)} {i : Nat} (h : xhas L i = false) : ∀ q ∈ L, q.1 ≠ i := by
  induction L with
  | nil => intro q hq; cases hq
  | cons p l ih =>
    unfold xhas at h
    cases hb : Nat.beq p.1 i with
    | true => rw [hb] at h; cases h
    | false =>
      rw [hb] at h
      intro q hq
      rcases List.mem_cons.mp hq with e | hq
      · rw [e]; intro h2; rw [h2, Nat.beq_refl] at hb; cases hb
      · exact ih h q hq
theorem xput_mem {L : List (Nat × Value)} {i : Nat} {v : Value} {q : Nat × Value} (h : q ∈ xput L i v) : q = (i, v) ∨ (q ∈ L ∧ q.1 ≠ i) := by
  unfold xput at h
  cases hb : xhas L i with
  | true => rw [hb] at h; exact xmap_mem h
  | false =>
    rw [hb] at h
    rcases List.mem_cons.mp h with e | h
    · exact Or.inl e
    · exact Or.inr ⟨h, xhas_no hb q h⟩
theorem xput_has {ls : Array Slot} {nL : Nat} {L : List (Nat × Value)} {i : Nat} {v : Value} (hk : xok L i = true) (hl : lv_has ls nL ((i, v) :: L.filter (fun q => !(q.1 == i) && !(q.1 + 1 == i && q.2.category == 2)))) : lv_has ls nL (xput L i v) := by
  refine ⟨hl.1, hl.2.1, fun q hq => hl.2.2 q ?_⟩
  rcases xput_mem hq with e | ⟨h1, h2⟩
  · rw [e]; exact List.mem_cons_self
  · refine List.mem_cons_of_mem _ (List.mem_filter.mpr ⟨h1, ?_⟩)
    have h3 := List.all_eq_true.mp hk q h1
    simp only [Bool.and_eq_true]
    exact ⟨by simp [h2], h3⟩
def xok2 (L : List (Nat × Value)) (i : Nat) : Bool := L.all (fun q => !(q.1 == i + 1) && !(q.1 + 1 == i && q.2.category == 2))
theorem xput_has2 {ls : Array Slot} {nL : Nat} {L : List (Nat × Value)} {i : Nat} {v : Value} (hk : xok2 L i = true) (hl : lv_has ls nL ((i, v) :: L.filter (fun q => !(q.1 == i) && (!(q.1 == i + 1) && !(q.1 + 1 == i && q.2.category == 2))))) : lv_has ls nL (xput L i v) := by
  refine ⟨hl.1, hl.2.1, fun q hq => hl.2.2 q ?_⟩
  rcases xput_mem hq with e | ⟨h1, h2⟩
  · rw [e]; exact List.mem_cons_self
  · refine List.mem_cons_of_mem _ (List.mem_filter.mpr ⟨h1, ?_⟩)
    have h3 := List.all_eq_true.mp hk q h1
    simp only [Bool.and_eq_true]
    exact ⟨by simp [h2], by simpa using h3⟩
/-- fewer locals, or the same in another order -/
theorem x_sub {G : xG} {E : xE} {nL mc ms : Nat} {h : xAH} {pc : Nat} {L L' : List (Nat × Value)} {st : List Value} (hL : ∀ q ∈ L', q ∈ L) (k : xW G E nL mc ms h pc L' st) : xW G E nL mc ms h pc L st :=
  fun H locs cells slots ls hR hF hc hs hl => k H locs cells slots ls hR hF hc hs ⟨hl.1, hl.2.1, fun q hq => hl.2.2 q (hL q hq)⟩
/-- the locals by their numbers alone -/
theorem x_locs {G : xG} {E : xE} {nL mc ms : Nat} {h : xAH} {pc : Nat} {L : List (Nat × Value)} {st : List Value} (L' : List (Nat × Value)) (hL : L'.all (fun q => (xget L q.1).isSome) = true) (hv : ∀ q ∈ L', xget L q.1 = some q.2) (k : xW G E nL mc ms h pc L' st) : xW G E nL mc ms h pc L st :=
  x_sub (fun q hq => by have := xget_mem (hv q hq); exact this) k
/-- less room will do -/
theorem x_less {G : xG} {E : xE} {nL mc ms mc' ms' : Nat} {h : xAH} {pc : Nat} {L : List (Nat × Value)} {st : List Value} (h1 : mc' ≤ mc) (h2 : ms' ≤ ms) (k : xW G E nL mc' ms' h pc L st) : xW G E nL mc ms h pc L st :=
  fun H locs cells slots ls hR hF hc hs hl => k H locs cells slots ls hR hF (Nat.le_trans (Nat.add_le_add_left h1 _) hc) (Nat.le_trans (Nat.add_le_add_left h2 _) hs) hl
theorem x_heap {G : xG} {E : xE} {nL mc ms : Nat} {h h2 : xAH} {pc : Nat} {L : List (Nat × Value)} {st : List Value} (e : h = h2) (k : xW G E nL mc ms h2 pc L st) : xW G E nL mc ms h pc L st := e ▸ k
theorem x_less' {G : xG} {E : xE} {nL mc ms mc' ms' : Nat} {h : xAH} {pc : Nat} {L : List (Nat × Value)} {X : String} {q : Nat} (h1 : mc' ≤ mc) (h2 : ms' ≤ ms) (k : xT G E nL mc' ms' h pc L X q) : xT G E nL mc ms h pc L X q :=
  fun H locs cells slots ls st ce hR hF hc hs hl => k H locs cells slots ls st ce hR hF (Nat.le_trans (Nat.add_le_add_left h1 _) hc) (Nat.le_trans (Nat.add_le_add_left h2 _) hs) hl
/-- the heap, its facts, seen once more: the goal may use that the heap is well made -/
theorem x_rep {G : xG} {E : xE} {nL mc ms : Nat} {h : xAH} {pc : Nat} {L : List (Nat × Value)} {st : List Value} (k : (∀ q o, h q = some o → xz G ≤ q) → xW G E nL mc ms h pc L st) : xW G E nL mc ms h pc L st :=
  fun H locs cells slots ls hR hF hc hs hl => k (fun q o e => (hR q o e).1) H locs cells slots ls hR hF hc hs hl
section XR
variable {G : xG} {E : xE} {y : MethodName} {cc : ByteArray} {nL : Nat} {ret : Option FieldType} {hh : xH_} {n mc ms mc' ms' : Nat} {h : xAH} {pc : Nat} {L : List (Nat × Value)} {st : List Value}
theorem x_iconst (C : xC G E y cc nL ret hh n) {i : Int} (v : Int32) (d : decode cc pc = .ok (.iconst i, 1)) (hv : Int32.ofInt i = v) (k : xW G E nL mc ms h (pc + 1) L (.int v :: st)) : xW G E nL mc ms h pc L (st) := fun H locs cells slots ls hR hF hc hs hl => lv_iconst C.1 C.2.1 d hv (k H locs cells slots ls hR hF hc hs hl)
theorem x_bipush (C : xC G E y cc nL ret hh n) {i : Int} (v : Int32) (d : decode cc pc = .ok (.bipush i, 2)) (hv : (Int8.ofInt i).toInt32 = v) (k : xW G E nL mc ms h (pc + 2) L (.int v :: st)) : xW G E nL mc ms h pc L (st) := fun H locs cells slots ls hR hF hc hs hl => lv_bipush C.1 C.2.1 d hv (k H locs cells slots ls hR hF hc hs hl)
theorem x_sipush (C : xC G E y cc nL ret hh n) {i : Int} (v : Int32) (d : decode cc pc = .ok (.sipush i, 3)) (hv : (Int16.ofInt i).toInt32 = v) (k : xW G E nL mc ms h (pc + 3) L (.int v :: st)) : xW G E nL mc ms h pc L (st) := fun H locs cells slots ls hR hF hc hs hl => lv_sipush C.1 C.2.1 d hv (k H locs cells slots ls hR hF hc hs hl)
theorem x_lconst (C : xC G E y cc nL ret hh n) {i : Fin 2} (v : Int64) (d : decode cc pc = .ok (.lconst i, 1)) (hv : Int64.ofNat (i : Nat) = v) (k : xW G E nL mc ms h (pc + 1) L (.long v :: st)) : xW G E nL mc ms h pc L (st) := fun H locs cells slots ls hR hF hc hs hl => lv_lconst C.1 C.2.1 d hv (k H locs cells slots ls hR hF hc hs hl)
theorem x_fconst0 (C : xC G E y cc nL ret hh n)  (d : decode cc pc = .ok (.fconst 0, 1))  (k : xW G E nL mc ms h (pc + 1) L (.float 0 :: st)) : xW G E nL mc ms h pc L (st) := fun H locs cells slots ls hR hF hc hs hl => lv_fconst0 C.1 C.2.1 d  (k H locs cells slots ls hR hF hc hs hl)
theorem x_dconst0 (C : xC G E y cc nL ret hh n)  (d : decode cc pc = .ok (.dconst 0, 1))  (k : xW G E nL mc ms h (pc + 1) L (.double 0 :: st)) : xW G E nL mc ms h pc L (st) := fun H locs cells slots ls hR hF hc hs hl => lv_dconst0 C.1 C.2.1 d  (k H locs cells slots ls hR hF hc hs hl)
theorem x_null (C : xC G E y cc nL ret hh n)  (d : decode cc pc = .ok (.aconst_null, 1))  (k : xW G E nL mc ms h (pc + 1) L (.null :: st)) : xW G E nL mc ms h pc L (st) := fun H locs cells slots ls hR hF hc hs hl => lv_null C.1 C.2.1 d  (k H locs cells slots ls hR hF hc hs hl)
theorem x_iload_n (C : xC G E y cc nL ret hh n) {i : Fin 4} {v : Int32} (d : decode cc pc = .ok (.iload_n i, 1)) (hv : xget L (i : Nat) = some (.int v)) (k : xW G E nL mc ms h (pc + 1) L (.int v :: st)) : xW G E nL mc ms h pc L (st) := fun H locs cells slots ls hR hF hc hs hl => lv_iload_n C.1 C.2.1 d rfl (xget_has hl hv) (k H locs cells slots ls hR hF hc hs hl)
theorem x_iload (C : xC G E y cc nL ret hh n) {i : Nat} {v : Int32} (d : decode cc pc = .ok (.iload i, 2)) (hv : xget L i = some (.int v)) (k : xW G E nL mc ms h (pc + 2) L (.int v :: st)) : xW G E nL mc ms h pc L (st) := fun H locs cells slots ls hR hF hc hs hl => lv_iload C.1 C.2.1 d (xget_has hl hv) (k H locs cells slots ls hR hF hc hs hl)
theorem x_lload_n (C : xC G E y cc nL ret hh n) {i : Fin 4} {v : Int64} (d : decode cc pc = .ok (.lload_n i, 1)) (hv : xget L (i : Nat) = some (.long v)) (k : xW G E nL mc ms h (pc + 1) L (.long v :: st)) : xW G E nL mc ms h pc L (st) := fun H locs cells slots ls hR hF hc hs hl => lv_lload_n C.1 C.2.1 d rfl (xget_has hl hv) (k H locs cells slots ls hR hF hc hs hl)
theorem x_lload (C : xC G E y cc nL ret hh n) {i : Nat} {v : Int64} (d : decode cc pc = .ok (.lload i, 2)) (hv : xget L i = some (.long v)) (k : xW G E nL mc ms h (pc + 2) L (.long v :: st)) : xW G E nL mc ms h pc L (st) := fun H locs cells slots ls hR hF hc hs hl => lv_lload C.1 C.2.1 d (xget_has hl hv) (k H locs cells slots ls hR hF hc hs hl)
theorem x_fload_n (C : xC G E y cc nL ret hh n) {i : Fin 4} {v : UInt32} (d : decode cc pc = .ok (.fload_n i, 1)) (hv : xget L (i : Nat) = some (.float v)) (k : xW G E nL mc ms h (pc + 1) L (.float v :: st)) : xW G E nL mc ms h pc L (st) := fun H locs cells slots ls hR hF hc hs hl => lv_fload_n C.1 C.2.1 d rfl (xget_has hl hv) (k H locs cells slots ls hR hF hc hs hl)
theorem x_fload (C : xC G E y cc nL ret hh n) {i : Nat} {v : UInt32} (d : decode cc pc = .ok (.fload i, 2)) (hv : xget L i = some (.float v)) (k : xW G E nL mc ms h (pc + 2) L (.float v :: st)) : xW G E nL mc ms h pc L (st) := fun H locs cells slots ls hR hF hc hs hl => lv_fload C.1 C.2.1 d (xget_has hl hv) (k H locs cells slots ls hR hF hc hs hl)
theorem x_dload_n (C : xC G E y cc nL ret hh n) {i : Fin 4} {v : UInt64} (d : decode cc pc = .ok (.dload_n i, 1)) (hv : xget L (i : Nat) = some (.double v)) (k : xW G E nL mc ms h (pc + 1) L (.double v :: st)) : xW G E nL mc ms h pc L (st) := fun H locs cells slots ls hR hF hc hs hl => lv_dload_n C.1 C.2.1 d rfl (xget_has hl hv) (k H locs cells slots ls hR hF hc hs hl)
theorem x_dload (C : xC G E y cc nL ret hh n) {i : Nat} {v : UInt64} (d : decode cc pc = .ok (.dload i, 2)) (hv : xget L i = some (.double v)) (k : xW G E nL mc ms h (pc + 2) L (.double v :: st)) : xW G E nL mc ms h pc L (st) := fun H locs cells slots ls hR hF hc hs hl => lv_dload C.1 C.2.1 d (xget_has hl hv) (k H locs cells slots ls hR hF hc hs hl)
theorem x_aload_n (C : xC G E y cc nL ret hh n) {i : Fin 4} {v : Nat} (d : decode cc pc = .ok (.aload_n i, 1)) (hv : xget L (i : Nat) = some (.ref v)) (k : xW G E nL mc ms h (pc + 1) L (.ref v :: st)) : xW G E nL mc ms h pc L (st) := fun H locs cells slots ls hR hF hc hs hl => lv_aload_n C.1 C.2.1 d rfl (xget_has hl hv) (k H locs cells slots ls hR hF hc hs hl)
theorem x_aload (C : xC G E y cc nL ret hh n) {i : Nat} {v : Nat} (d : decode cc pc = .ok (.aload i, 2)) (hv : xget L i = some (.ref v)) (k : xW G E nL mc ms h (pc + 2) L (.ref v :: st)) : xW G E nL mc ms h pc L (st) := fun H locs cells slots ls hR hF hc hs hl => lv_aload C.1 C.2.1 d (xget_has hl hv) (k H locs cells slots ls hR hF hc hs hl)
theorem x_aload_nN (C : xC G E y cc nL ret hh n) {i : Fin 4} (d : decode cc pc = .ok (.aload_n i, 1)) (hv : xget L (i : Nat) = some .null) (k : xW G E nL mc ms h (pc + 1) L (.null :: st)) : xW G E nL mc ms h pc L (st) := fun H locs cells slots ls hR hF hc hs hl => lv_aload_nN C.1 C.2.1 d rfl (xget_has hl hv) (k H locs cells slots ls hR hF hc hs hl)
theorem x_aloadN (C : xC G E y cc nL ret hh n) {i : Nat} (d : decode cc pc = .ok (.aload i, 2)) (hv : xget L i = some .null) (k : xW G E nL mc ms h (pc + 2) L (.null :: st)) : xW G E nL mc ms h pc L (st) := fun H locs cells slots ls hR hF hc hs hl => lv_aloadN C.1 C.2.1 d (xget_has hl hv) (k H locs cells slots ls hR hF hc hs hl)
theorem x_istore_n (C : xC G E y cc nL ret hh n) {i : Fin 4} {v : Int32} (d : decode cc pc = .ok (.istore_n i, 1)) (hn : (i : Nat) < nL) (hk : xok L (i : Nat) = true) (k : xW G E nL mc ms h (pc + 1) (xput L (i : Nat) (.int v)) st) : xW G E nL mc ms h pc L (.int v :: st) := fun H locs cells slots ls hR hF hc hs hl => lv_istore_n C.1 C.2.1 d rfl hl hn rfl (fun ls2 hl2 => k H locs cells slots ls2 hR hF hc hs (xput_has hk hl2))
theorem x_istore (C : xC G E y cc nL ret hh n) {i : Nat} {v : Int32} (d : decode cc pc = .ok (.istore i, 2)) (hn : i < nL) (hk : xok L i = true) (k : xW G E nL mc ms h (pc + 2) (xput L i (.int v)) st) : xW G E nL mc ms h pc L (.int v :: st) := fun H locs cells slots ls hR hF hc hs hl => lv_istore C.1 C.2.1 d  hl hn rfl (fun ls2 hl2 => k H locs cells slots ls2 hR hF hc hs (xput_has hk hl2))
theorem x_lstore_n (C : xC G E y cc nL ret hh n) {i : Fin 4} {v : Int64} (d : decode cc pc = .ok (.lstore_n i, 1)) (hn : (i : Nat) + 1 < nL) (hk : xok2 L (i : Nat) = true) (k : xW G E nL mc ms h (pc + 1) (xput L (i : Nat) (.long v)) st) : xW G E nL mc ms h pc L (.long v :: st) := fun H locs cells slots ls hR hF hc hs hl => lv_lstore_n C.1 C.2.1 d rfl hl hn rfl (fun ls2 hl2 => k H locs cells slots ls2 hR hF hc hs (xput_has2 hk hl2))
theorem x_lstore (C : xC G E y cc nL ret hh n) {i : Nat} {v : Int64} (d : decode cc pc = .ok (.lstore i, 2)) (hn : i + 1 < nL) (hk : xok2 L i = true) (k : xW G E nL mc ms h (pc + 2) (xput L i (.long v)) st) : xW G E nL mc ms h pc L (.long v :: st) := fun H locs cells slots ls hR hF hc hs hl => lv_lstore C.1 C.2.1 d  hl hn rfl (fun ls2 hl2 => k H locs cells slots ls2 hR hF hc hs (xput_has2 hk hl2))
theorem x_fstore_n (C : xC G E y cc nL ret hh n) {i : Fin 4} {v : UInt32} (d : decode cc pc = .ok (.fstore_n i, 1)) (hn : (i : Nat) < nL) (hk : xok L (i : Nat) = true) (k : xW G E nL mc ms h (pc + 1) (xput L (i : Nat) (.float v)) st) : xW G E nL mc ms h pc L (.float v :: st) := fun H locs cells slots ls hR hF hc hs hl => lv_fstore_n C.1 C.2.1 d rfl hl hn rfl (fun ls2 hl2 => k H locs cells slots ls2 hR hF hc hs (xput_has hk hl2))
theorem x_fstore (C : xC G E y cc nL ret hh n) {i : Nat} {v : UInt32} (d : decode cc pc = .ok (.fstore i, 2)) (hn : i < nL) (hk : xok L i = true) (k : xW G E nL mc ms h (pc + 2) (xput L i (.float v)) st) : xW G E nL mc ms h pc L (.float v :: st) := fun H locs cells slots ls hR hF hc hs hl => lv_fstore C.1 C.2.1 d  hl hn rfl (fun ls2 hl2 => k H locs cells slots ls2 hR hF hc hs (xput_has hk hl2))
theorem x_dstore_n (C : xC G E y cc nL ret hh n) {i : Fin 4} {v : UInt64} (d : decode cc pc = .ok (.dstore_n i, 1)) (hn : (i : Nat) + 1 < nL) (hk : xok2 L (i : Nat) = true) (k : xW G E nL mc ms h (pc + 1) (xput L (i : Nat) (.double v)) st) : xW G E nL mc ms h pc L (.double v :: st) := fun H locs cells slots ls hR hF hc hs hl => lv_dstore_n C.1 C.2.1 d rfl hl hn rfl (fun ls2 hl2 => k H locs cells slots ls2 hR hF hc hs (xput_has2 hk hl2))
theorem x_dstore (C : xC G E y cc nL ret hh n) {i : Nat} {v : UInt64} (d : decode cc pc = .ok (.dstore i, 2)) (hn : i + 1 < nL) (hk : xok2 L i = true) (k : xW G E nL mc ms h (pc + 2) (xput L i (.double v)) st) : xW G E nL mc ms h pc L (.double v :: st) := fun H locs cells slots ls hR hF hc hs hl => lv_dstore C.1 C.2.1 d  hl hn rfl (fun ls2 hl2 => k H locs cells slots ls2 hR hF hc hs (xput_has2 hk hl2))
theorem x_astore_n (C : xC G E y cc nL ret hh n) {i : Fin 4} {v : Nat} (d : decode cc pc = .ok (.astore_n i, 1)) (hn : (i : Nat) < nL) (hk : xok L (i : Nat) = true) (k : xW G E nL mc ms h (pc + 1) (xput L (i : Nat) (.ref v)) st) : xW G E nL mc ms h pc L (.ref v :: st) := fun H locs cells slots ls hR hF hc hs hl => lv_astore_n C.1 C.2.1 d rfl hl hn rfl (fun ls2 hl2 => k H locs cells slots ls2 hR hF hc hs (xput_has hk hl2))
theorem x_astore (C : xC G E y cc nL ret hh n) {i : Nat} {v : Nat} (d : decode cc pc = .ok (.astore i, 2)) (hn : i < nL) (hk : xok L i = true) (k : xW G E nL mc ms h (pc + 2) (xput L i (.ref v)) st) : xW G E nL mc ms h pc L (.ref v :: st) := fun H locs cells slots ls hR hF hc hs hl => lv_astore C.1 C.2.1 d  hl hn rfl (fun ls2 hl2 => k H locs cells slots ls2 hR hF hc hs (xput_has hk hl2))
theorem x_astore_nN (C : xC G E y cc nL ret hh n) {i : Fin 4} (d : decode cc pc = .ok (.astore_n i, 1)) (hn : (i : Nat) < nL) (hk : xok L (i : Nat) = true) (k : xW G E nL mc ms h (pc + 1) (xput L (i : Nat) (.null)) st) : xW G E nL mc ms h pc L (.null :: st) := fun H locs cells slots ls hR hF hc hs hl => lv_astore_nN C.1 C.2.1 d rfl hl hn rfl (fun ls2 hl2 => k H locs cells slots ls2 hR hF hc hs (xput_has hk hl2))
theorem x_astoreN (C : xC G E y cc nL ret hh n) {i : Nat} (d : decode cc pc = .ok (.astore i, 2)) (hn : i < nL) (hk : xok L i = true) (k : xW G E nL mc ms h (pc + 2) (xput L i (.null)) st) : xW G E nL mc ms h pc L (.null :: st) := fun H locs cells slots ls hR hF hc hs hl => lv_astoreN C.1 C.2.1 d  hl hn rfl (fun ls2 hl2 => k H locs cells slots ls2 hR hF hc hs (xput_has hk hl2))
theorem xget_at {L : List (Nat × Value)} {i : Nat} {v : Value} (h : xget L i = some v) : ∃ k : Nat, L[k]? = some (i, v) := List.getElem?_of_mem (xget_mem h)
theorem x_iinc (C : xC G E y cc nL ret hh n) {i : Nat} {z : Int} {x : Int32} (v : Int32) (d : decode cc pc = .ok (.iinc i z, 3)) (hx : xget L i = some (.int x)) (hv : x + Int32.ofInt z = v) (hn : i < nL) (hk : xok L i = true) (k : xW G E nL mc ms h (pc + 3) (xput L i (.int v)) st) : xW G E nL mc ms h pc L st := fun H locs cells slots ls hR hF hc hs hl => by
  obtain ⟨j, hj⟩ := xget_at hx
  exact lv_iinc C.1 C.2.1 d hl hj hv hn rfl (fun ls2 hl2 => k H locs cells slots ls2 hR hF hc hs (xput_has hk hl2))
theorem x_iadd (C : xC G E y cc nL ret hh n) {x y2 : Int32} (d : decode cc pc = .ok (.iadd, 1))  (k : xW G E nL mc ms h (pc + 1) L (.int (x + y2) :: st)) : xW G E nL mc ms h pc L (.int y2 :: .int x :: st) := fun H locs cells slots ls hR hF hc hs hl => lv_iadd C.1 C.2.1 d  (k H locs cells slots ls hR hF hc hs hl)
theorem x_isub (C : xC G E y cc nL ret hh n) {x y2 : Int32} (d : decode cc pc = .ok (.isub, 1))  (k : xW G E nL mc ms h (pc + 1) L (.int (x - y2) :: st)) : xW G E nL mc ms h pc L (.int y2 :: .int x :: st) := fun H locs cells slots ls hR hF hc hs hl => lv_isub C.1 C.2.1 d  (k H locs cells slots ls hR hF hc hs hl)
theorem x_imul (C : xC G E y cc nL ret hh n) {x y2 : Int32} (d : decode cc pc = .ok (.imul, 1))  (k : xW G E nL mc ms h (pc + 1) L (.int (x * y2) :: st)) : xW G E nL mc ms h pc L (.int y2 :: .int x :: st) := fun H locs cells slots ls hR hF hc hs hl => lv_imul C.1 C.2.1 d  (k H locs cells slots ls hR hF hc hs hl)
theorem x_iand (C : xC G E y cc nL ret hh n) {x y2 : Int32} (d : decode cc pc = .ok (.iand, 1))  (k : xW G E nL mc ms h (pc + 1) L (.int (x &&& y2) :: st)) : xW G E nL mc ms h pc L (.int y2 :: .int x :: st) := fun H locs cells slots ls hR hF hc hs hl => lv_iand C.1 C.2.1 d  (k H locs cells slots ls hR hF hc hs hl)
theorem x_ior (C : xC G E y cc nL ret hh n) {x y2 : Int32} (d : decode cc pc = .ok (.ior, 1))  (k : xW G E nL mc ms h (pc + 1) L (.int (x ||| y2) :: st)) : xW G E nL mc ms h pc L (.int y2 :: .int x :: st) := fun H locs cells slots ls hR hF hc hs hl => lv_ior C.1 C.2.1 d  (k H locs cells slots ls hR hF hc hs hl)
theorem x_ixor (C : xC G E y cc nL ret hh n) {x y2 : Int32} (d : decode cc pc = .ok (.ixor, 1))  (k : xW G E nL mc ms h (pc + 1) L (.int (x ^^^ y2) :: st)) : xW G E nL mc ms h pc L (.int y2 :: .int x :: st) := fun H locs cells slots ls hR hF hc hs hl => lv_ixor C.1 C.2.1 d  (k H locs cells slots ls hR hF hc hs hl)
theorem x_ishl (C : xC G E y cc nL ret hh n) {x y2 : Int32} (d : decode cc pc = .ok (.ishl, 1))  (k : xW G E nL mc ms h (pc + 1) L (.int (x <<< (y2 &&& 31)) :: st)) : xW G E nL mc ms h pc L (.int y2 :: .int x :: st) := fun H locs cells slots ls hR hF hc hs hl => lv_ishl C.1 C.2.1 d  (k H locs cells slots ls hR hF hc hs hl)
theorem x_ishr (C : xC G E y cc nL ret hh n) {x y2 : Int32} (d : decode cc pc = .ok (.ishr, 1))  (k : xW G E nL mc ms h (pc + 1) L (.int (x >>> (y2 &&& 31)) :: st)) : xW G E nL mc ms h pc L (.int y2 :: .int x :: st) := fun H locs cells slots ls hR hF hc hs hl => lv_ishr C.1 C.2.1 d  (k H locs cells slots ls hR hF hc hs hl)
theorem x_iushr (C : xC G E y cc nL ret hh n) {x y2 : Int32} (d : decode cc pc = .ok (.iushr, 1))  (k : xW G E nL mc ms h (pc + 1) L (.int ((x.toUInt32 >>> (y2.toUInt32 &&& Int32.toUInt32 31)).toInt32) :: st)) : xW G E nL mc ms h pc L (.int y2 :: .int x :: st) := fun H locs cells slots ls hR hF hc hs hl => lv_iushr C.1 C.2.1 d rfl (k H locs cells slots ls hR hF hc hs hl)
theorem x_idiv (C : xC G E y cc nL ret hh n) {x y2 : Int32} (d : decode cc pc = .ok (.idiv, 1)) (hne : ¬ y2 = 0) (k : xW G E nL mc ms h (pc + 1) L (.int (x / y2) :: st)) : xW G E nL mc ms h pc L (.int y2 :: .int x :: st) := fun H locs cells slots ls hR hF hc hs hl => lv_idiv C.1 C.2.1 d hne (k H locs cells slots ls hR hF hc hs hl)
theorem x_irem (C : xC G E y cc nL ret hh n) {x y2 : Int32} (d : decode cc pc = .ok (.irem, 1)) (hne : ¬ y2 = 0) (k : xW G E nL mc ms h (pc + 1) L (.int (x - x / y2 * y2) :: st)) : xW G E nL mc ms h pc L (.int y2 :: .int x :: st) := fun H locs cells slots ls hR hF hc hs hl => lv_irem C.1 C.2.1 d hne (k H locs cells slots ls hR hF hc hs hl)
theorem x_ineg (C : xC G E y cc nL ret hh n) {x : Int32} (d : decode cc pc = .ok (.ineg, 1))  (k : xW G E nL mc ms h (pc + 1) L (.int (-x) :: st)) : xW G E nL mc ms h pc L (.int x :: st) := fun H locs cells slots ls hR hF hc hs hl => lv_ineg C.1 C.2.1 d  (k H locs cells slots ls hR hF hc hs hl)
theorem x_ladd (C : xC G E y cc nL ret hh n) {x y2 : Int64} (d : decode cc pc = .ok (.ladd, 1))  (k : xW G E nL mc ms h (pc + 1) L (.long (x + y2) :: st)) : xW G E nL mc ms h pc L (.long y2 :: .long x :: st) := fun H locs cells slots ls hR hF hc hs hl => lv_ladd C.1 C.2.1 d  (k H locs cells slots ls hR hF hc hs hl)
theorem x_lsub (C : xC G E y cc nL ret hh n) {x y2 : Int64} (d : decode cc pc = .ok (.lsub, 1))  (k : xW G E nL mc ms h (pc + 1) L (.long (x - y2) :: st)) : xW G E nL mc ms h pc L (.long y2 :: .long x :: st) := fun H locs cells slots ls hR hF hc hs hl => lv_lsub C.1 C.2.1 d  (k H locs cells slots ls hR hF hc hs hl)
theorem x_lmul (C : xC G E y cc nL ret hh n) {x y2 : Int64} (d : decode cc pc = .ok (.lmul, 1))  (k : xW G E nL mc ms h (pc + 1) L (.long (x * y2) :: st)) : xW G E nL mc ms h pc L (.long y2 :: .long x :: st) := fun H locs cells slots ls hR hF hc hs hl => lv_lmul C.1 C.2.1 d  (k H locs cells slots ls hR hF hc hs hl)
theorem x_land (C : xC G E y cc nL ret hh n) {x y2 : Int64} (d : decode cc pc = .ok (.land, 1))  (k : xW G E nL mc ms h (pc + 1) L (.long (x &&& y2) :: st)) : xW G E nL mc ms h pc L (.long y2 :: .long x :: st) := fun H locs cells slots ls hR hF hc hs hl => lv_land C.1 C.2.1 d  (k H locs cells slots ls hR hF hc hs hl)
theorem x_lor (C : xC G E y cc nL ret hh n) {x y2 : Int64} (d : decode cc pc = .ok (.lor, 1))  (k : xW G E nL mc ms h (pc + 1) L (.long (x ||| y2) :: st)) : xW G E nL mc ms h pc L (.long y2 :: .long x :: st) := fun H locs cells slots ls hR hF hc hs hl => lv_lor C.1 C.2.1 d  (k H locs cells slots ls hR hF hc hs hl)
theorem x_lxor (C : xC G E y cc nL ret hh n) {x y2 : Int64} (d : decode cc pc = .ok (.lxor, 1))  (k : xW G E nL mc ms h (pc + 1) L (.long (x ^^^ y2) :: st)) : xW G E nL mc ms h pc L (.long y2 :: .long x :: st) := fun H locs cells slots ls hR hF hc hs hl => lv_lxor C.1 C.2.1 d  (k H locs cells slots ls hR hF hc hs hl)
theorem x_lushr (C : xC G E y cc nL ret hh n) {x : Int64} {y2 : Int32} (v : Int64) (d : decode cc pc = .ok (.lushr, 1)) (hv : (x.toUInt64 >>> (y2.toInt64.toUInt64 &&& Int64.toUInt64 63)).toInt64 = v) (k : xW G E nL mc ms h (pc + 1) L (.long v :: st)) : xW G E nL mc ms h pc L (.int y2 :: .long x :: st) := fun H locs cells slots ls hR hF hc hs hl => lv_lushr C.1 C.2.1 d hv (k H locs cells slots ls hR hF hc hs hl)
theorem x_lshl (C : xC G E y cc nL ret hh n) {x : Int64} {y2 : Int32} (v : Int64) (d : decode cc pc = .ok (.lshl, 1)) (hv : x <<< (y2.toInt64 &&& 63) = v) (k : xW G E nL mc ms h (pc + 1) L (.long v :: st)) : xW G E nL mc ms h pc L (.int y2 :: .long x :: st) := fun H locs cells slots ls hR hF hc hs hl => lv_lshl C.1 C.2.1 d hv (k H locs cells slots ls hR hF hc hs hl)
theorem x_lshr (C : xC G E y cc nL ret hh n) {x : Int64} {y2 : Int32} (v : Int64) (d : decode cc pc = .ok (.lshr, 1)) (hv : x >>> (y2.toInt64 &&& 63) = v) (k : xW G E nL mc ms h (pc + 1) L (.long v :: st)) : xW G E nL mc ms h pc L (.int y2 :: .long x :: st) := fun H locs cells slots ls hR hF hc hs hl => lv_lshr C.1 C.2.1 d hv (k H locs cells slots ls hR hF hc hs hl)
theorem x_lcmp (C : xC G E y cc nL ret hh n) {x y2 : Int64} (d : decode cc pc = .ok (.lcmp, 1))  (k : xW G E nL mc ms h (pc + 1) L (.int (lg_cmp x y2) :: st)) : xW G E nL mc ms h pc L (.long y2 :: .long x :: st) := fun H locs cells slots ls hR hF hc hs hl => W.lcmp C.1 C.2.1 d  (k H locs cells slots ls hR hF hc hs hl)
theorem x_i2l (C : xC G E y cc nL ret hh n) {x : Int32} (d : decode cc pc = .ok (.i2l, 1))  (k : xW G E nL mc ms h (pc + 1) L (.long x.toInt64 :: st)) : xW G E nL mc ms h pc L (.int x :: st) := fun H locs cells slots ls hR hF hc hs hl => lv_i2l C.1 C.2.1 d rfl (k H locs cells slots ls hR hF hc hs hl)
theorem x_l2i (C : xC G E y cc nL ret hh n) {x : Int64} (d : decode cc pc = .ok (.l2i, 1))  (k : xW G E nL mc ms h (pc + 1) L (.int x.toInt32 :: st)) : xW G E nL mc ms h pc L (.long x :: st) := fun H locs cells slots ls hR hF hc hs hl => lv_l2i C.1 C.2.1 d rfl (k H locs cells slots ls hR hF hc hs hl)
theorem x_i2b (C : xC G E y cc nL ret hh n) {x : Int32} (d : decode cc pc = .ok (.i2b, 1))  (k : xW G E nL mc ms h (pc + 1) L (.int x.toInt8.toInt32 :: st)) : xW G E nL mc ms h pc L (.int x :: st) := fun H locs cells slots ls hR hF hc hs hl => lv_i2b C.1 C.2.1 d rfl (k H locs cells slots ls hR hF hc hs hl)
theorem x_i2c (C : xC G E y cc nL ret hh n) {x : Int32} (d : decode cc pc = .ok (.i2c, 1))  (k : xW G E nL mc ms h (pc + 1) L (.int (x.toUInt32 % 65536).toInt32 :: st)) : xW G E nL mc ms h pc L (.int x :: st) := fun H locs cells slots ls hR hF hc hs hl => lv_i2c C.1 C.2.1 d rfl (k H locs cells slots ls hR hF hc hs hl)
theorem x_fmul (C : xC G E y cc nL ret hh n) {x y2 : UInt32} (d : decode cc pc = .ok (.fmul, 1)) (hne : vf_n32 (FP.fmul x y2)) (k : xW G E nL mc ms h (pc + 1) L (.float (FP.fmul x y2) :: st)) : xW G E nL mc ms h pc L (.float y2 :: .float x :: st) := fun H locs cells slots ls hR hF hc hs hl => lv_fmul C.1 C.2.1 d hne (k H locs cells slots ls hR hF hc hs hl)
theorem x_fdiv (C : xC G E y cc nL ret hh n) {x y2 : UInt32} (d : decode cc pc = .ok (.fdiv, 1)) (hne : vf_n32 (FP.fdiv x y2)) (k : xW G E nL mc ms h (pc + 1) L (.float (FP.fdiv x y2) :: st)) : xW G E nL mc ms h pc L (.float y2 :: .float x :: st) := fun H locs cells slots ls hR hF hc hs hl => lv_fdiv C.1 C.2.1 d hne (k H locs cells slots ls hR hF hc hs hl)
theorem x_ddiv (C : xC G E y cc nL ret hh n) {x y2 : UInt64} (d : decode cc pc = .ok (.ddiv, 1)) (hne : vf_n64 (FP.ddiv x y2)) (k : xW G E nL mc ms h (pc + 1) L (.double (FP.ddiv x y2) :: st)) : xW G E nL mc ms h pc L (.double y2 :: .double x :: st) := fun H locs cells slots ls hR hF hc hs hl => lv_ddiv C.1 C.2.1 d hne (k H locs cells slots ls hR hF hc hs hl)
theorem x_dup (C : xC G E y cc nL ret hh n) {va : Value} (d : decode cc pc = .ok (.dup, 1)) (h1 : va.category = 1) (k : xW G E nL mc ms h (pc + 1) L (va :: va :: st)) : xW G E nL mc ms h pc L (va :: st) := fun H locs cells slots ls hR hF hc hs hl => lv_dup C.1 C.2.1 d h1 (k H locs cells slots ls hR hF hc hs hl)
theorem x_pop (C : xC G E y cc nL ret hh n) {va : Value} (d : decode cc pc = .ok (.pop, 1)) (h1 : va.category = 1) (k : xW G E nL mc ms h (pc + 1) L (st)) : xW G E nL mc ms h pc L (va :: st) := fun H locs cells slots ls hR hF hc hs hl => lv_pop C.1 C.2.1 d h1 (k H locs cells slots ls hR hF hc hs hl)
theorem x_dup_x1 (C : xC G E y cc nL ret hh n) {va vb : Value} (d : decode cc pc = .ok (.dup_x1, 1)) (h1 : va.category = 1) (h2 : vb.category = 1) (k : xW G E nL mc ms h (pc + 1) L (va :: vb :: va :: st)) : xW G E nL mc ms h pc L (va :: vb :: st) := fun H locs cells slots ls hR hF hc hs hl => lv_dup_x1 C.1 C.2.1 d h1 h2 (k H locs cells slots ls hR hF hc hs hl)
theorem x_dup_x2 (C : xC G E y cc nL ret hh n) {va vb vd : Value} (d : decode cc pc = .ok (.dup_x2, 1)) (h1 : va.category = 1) (h2 : vb.category = 1) (h3 : vd.category = 1) (k : xW G E nL mc ms h (pc + 1) L (va :: vb :: vd :: va :: st)) : xW G E nL mc ms h pc L (va :: vb :: vd :: st) := fun H locs cells slots ls hR hF hc hs hl => lv_dup_x2 C.1 C.2.1 d h1 h2 h3 (k H locs cells slots ls hR hF hc hs hl)
theorem x_dup2 (C : xC G E y cc nL ret hh n) {va vb : Value} (d : decode cc pc = .ok (.dup2, 1)) (h1 : va.category = 1) (h2 : vb.category = 1) (k : xW G E nL mc ms h (pc + 1) L (va :: vb :: va :: vb :: st)) : xW G E nL mc ms h pc L (va :: vb :: st) := fun H locs cells slots ls hR hF hc hs hl => lv_dup2_11 C.1 C.2.1 d h1 h2 (k H locs cells slots ls hR hF hc hs hl)
theorem x_if_eq (C : xC G E y cc nL ret hh n) {x : Int32} {off : Int} (tgt : Nat) (d : decode cc pc = .ok (.ifCond .eq off, 3)) (ht : (pc : Int) + off = (tgt : Int)) (kt : x = 0 → xW G E nL mc ms h tgt L st) (kf : ¬ x = 0 → xW G E nL mc ms h (pc + 3) L st) : xW G E nL mc ms h pc L (.int x :: st) := fun H locs cells slots ls hR hF hc hs hl => lv_if_eq C.1 C.2.1 d ht (fun e => kt e H locs cells slots ls hR hF hc hs hl) (fun e => kf e H locs cells slots ls hR hF hc hs hl)
theorem x_icmp_eq (C : xC G E y cc nL ret hh n) {x y2 : Int32} {off : Int} (tgt : Nat) (d : decode cc pc = .ok (.if_icmp .eq off, 3)) (ht : (pc : Int) + off = (tgt : Int)) (kt : x = y2 → xW G E nL mc ms h tgt L st) (kf : ¬ x = y2 → xW G E nL mc ms h (pc + 3) L st) : xW G E nL mc ms h pc L (.int y2 :: .int x :: st) := fun H locs cells slots ls hR hF hc hs hl => lv_icmp_eq C.1 C.2.1 d ht (fun e => kt e H locs cells slots ls hR hF hc hs hl) (fun e => kf e H locs cells slots ls hR hF hc hs hl)
theorem x_if_ne (C : xC G E y cc nL ret hh n) {x : Int32} {off : Int} (tgt : Nat) (d : decode cc pc = .ok (.ifCond .ne off, 3)) (ht : (pc : Int) + off = (tgt : Int)) (kt : ¬ x = 0 → xW G E nL mc ms h tgt L st) (kf : x = 0 → xW G E nL mc ms h (pc + 3) L st) : xW G E nL mc ms h pc L (.int x :: st) := fun H locs cells slots ls hR hF hc hs hl => lv_if_ne C.1 C.2.1 d ht (fun e => kt e H locs cells slots ls hR hF hc hs hl) (fun e => kf e H locs cells slots ls hR hF hc hs hl)
theorem x_icmp_ne (C : xC G E y cc nL ret hh n) {x y2 : Int32} {off : Int} (tgt : Nat) (d : decode cc pc = .ok (.if_icmp .ne off, 3)) (ht : (pc : Int) + off = (tgt : Int)) (kt : ¬ x = y2 → xW G E nL mc ms h tgt L st) (kf : x = y2 → xW G E nL mc ms h (pc + 3) L st) : xW G E nL mc ms h pc L (.int y2 :: .int x :: st) := fun H locs cells slots ls hR hF hc hs hl => lv_icmp_ne C.1 C.2.1 d ht (fun e => kt e H locs cells slots ls hR hF hc hs hl) (fun e => kf e H locs cells slots ls hR hF hc hs hl)
theorem x_if_lt (C : xC G E y cc nL ret hh n) {x : Int32} {off : Int} (tgt : Nat) (d : decode cc pc = .ok (.ifCond .lt off, 3)) (ht : (pc : Int) + off = (tgt : Int)) (kt : x < 0 → xW G E nL mc ms h tgt L st) (kf : ¬ x < 0 → xW G E nL mc ms h (pc + 3) L st) : xW G E nL mc ms h pc L (.int x :: st) := fun H locs cells slots ls hR hF hc hs hl => lv_if_lt C.1 C.2.1 d ht (fun e => kt e H locs cells slots ls hR hF hc hs hl) (fun e => kf e H locs cells slots ls hR hF hc hs hl)
theorem x_icmp_lt (C : xC G E y cc nL ret hh n) {x y2 : Int32} {off : Int} (tgt : Nat) (d : decode cc pc = .ok (.if_icmp .lt off, 3)) (ht : (pc : Int) + off = (tgt : Int)) (kt : x < y2 → xW G E nL mc ms h tgt L st) (kf : ¬ x < y2 → xW G E nL mc ms h (pc + 3) L st) : xW G E nL mc ms h pc L (.int y2 :: .int x :: st) := fun H locs cells slots ls hR hF hc hs hl => lv_icmp_lt C.1 C.2.1 d ht (fun e => kt e H locs cells slots ls hR hF hc hs hl) (fun e => kf e H locs cells slots ls hR hF hc hs hl)
theorem x_if_ge (C : xC G E y cc nL ret hh n) {x : Int32} {off : Int} (tgt : Nat) (d : decode cc pc = .ok (.ifCond .ge off, 3)) (ht : (pc : Int) + off = (tgt : Int)) (kt : 0 ≤ x → xW G E nL mc ms h tgt L st) (kf : ¬ 0 ≤ x → xW G E nL mc ms h (pc + 3) L st) : xW G E nL mc ms h pc L (.int x :: st) := fun H locs cells slots ls hR hF hc hs hl => lv_if_ge C.1 C.2.1 d ht (fun e => kt e H locs cells slots ls hR hF hc hs hl) (fun e => kf e H locs cells slots ls hR hF hc hs hl)
theorem x_icmp_ge (C : xC G E y cc nL ret hh n) {x y2 : Int32} {off : Int} (tgt : Nat) (d : decode cc pc = .ok (.if_icmp .ge off, 3)) (ht : (pc : Int) + off = (tgt : Int)) (kt : y2 ≤ x → xW G E nL mc ms h tgt L st) (kf : ¬ y2 ≤ x → xW G E nL mc ms h (pc + 3) L st) : xW G E nL mc ms h pc L (.int y2 :: .int x :: st) := fun H locs cells slots ls hR hF hc hs hl => lv_icmp_ge C.1 C.2.1 d ht (fun e => kt e H locs cells slots ls hR hF hc hs hl) (fun e => kf e H locs cells slots ls hR hF hc hs hl)
theorem x_if_gt (C : xC G E y cc nL ret hh n) {x : Int32} {off : Int} (tgt : Nat) (d : decode cc pc = .ok (.ifCond .gt off, 3)) (ht : (pc : Int) + off = (tgt : Int)) (kt : 0 < x → xW G E nL mc ms h tgt L st) (kf : ¬ 0 < x → xW G E nL mc ms h (pc + 3) L st) : xW G E nL mc ms h pc L (.int x :: st) := fun H locs cells slots ls hR hF hc hs hl => lv_if_gt C.1 C.2.1 d ht (fun e => kt e H locs cells slots ls hR hF hc hs hl) (fun e => kf e H locs cells slots ls hR hF hc hs hl)
theorem x_icmp_gt (C : xC G E y cc nL ret hh n) {x y2 : Int32} {off : Int} (tgt : Nat) (d : decode cc pc = .ok (.if_icmp .gt off, 3)) (ht : (pc : Int) + off = (tgt : Int)) (kt : y2 < x → xW G E nL mc ms h tgt L st) (kf : ¬ y2 < x → xW G E nL mc ms h (pc + 3) L st) : xW G E nL mc ms h pc L (.int y2 :: .int x :: st) := fun H locs cells slots ls hR hF hc hs hl => lv_icmp_gt C.1 C.2.1 d ht (fun e => kt e H locs cells slots ls hR hF hc hs hl) (fun e => kf e H locs cells slots ls hR hF hc hs hl)
theorem x_if_le (C : xC G E y cc nL ret hh n) {x : Int32} {off : Int} (tgt : Nat) (d : decode cc pc = .ok (.ifCond .le off, 3)) (ht : (pc : Int) + off = (tgt : Int)) (kt : x ≤ 0 → xW G E nL mc ms h tgt L st) (kf : ¬ x ≤ 0 → xW G E nL mc ms h (pc + 3) L st) : xW G E nL mc ms h pc L (.int x :: st) := fun H locs cells slots ls hR hF hc hs hl => lv_if_le C.1 C.2.1 d ht (fun e => kt e H locs cells slots ls hR hF hc hs hl) (fun e => kf e H locs cells slots ls hR hF hc hs hl)
theorem x_icmp_le (C : xC G E y cc nL ret hh n) {x y2 : Int32} {off : Int} (tgt : Nat) (d : decode cc pc = .ok (.if_icmp .le off, 3)) (ht : (pc : Int) + off = (tgt : Int)) (kt : x ≤ y2 → xW G E nL mc ms h tgt L st) (kf : ¬ x ≤ y2 → xW G E nL mc ms h (pc + 3) L st) : xW G E nL mc ms h pc L (.int y2 :: .int x :: st) := fun H locs cells slots ls hR hF hc hs hl => lv_icmp_le C.1 C.2.1 d ht (fun e => kt e H locs cells slots ls hR hF hc hs hl) (fun e => kf e H locs cells slots ls hR hF hc hs hl)
theorem x_acmp_eq (C : xC G E y cc nL ret hh n) {rx ry : Option Nat} {off : Int} (tgt : Nat) (d : decode cc pc = .ok (.if_acmp .eq off, 3)) (ht : (pc : Int) + off = (tgt : Int)) (kt : rx = ry → xW G E nL mc ms h tgt L st) (kf : ¬ rx = ry → xW G E nL mc ms h (pc + 3) L st) : xW G E nL mc ms h pc L (va_rf ry :: va_rf rx :: st) := fun H locs cells slots ls hR hF hc hs hl => lv_acmp_eq C.1 C.2.1 d ht (fun e => kt e H locs cells slots ls hR hF hc hs hl) (fun e => kf e H locs cells slots ls hR hF hc hs hl)
theorem x_acmp_ne (C : xC G E y cc nL ret hh n) {rx ry : Option Nat} {off : Int} (tgt : Nat) (d : decode cc pc = .ok (.if_acmp .ne off, 3)) (ht : (pc : Int) + off = (tgt : Int)) (kt : ¬ rx = ry → xW G E nL mc ms h tgt L st) (kf : rx = ry → xW G E nL mc ms h (pc + 3) L st) : xW G E nL mc ms h pc L (va_rf ry :: va_rf rx :: st) := fun H locs cells slots ls hR hF hc hs hl => lv_acmp_ne C.1 C.2.1 d ht (fun e => kt e H locs cells slots ls hR hF hc hs hl) (fun e => kf e H locs cells slots ls hR hF hc hs hl)
theorem x_goto (C : xC G E y cc nL ret hh n) {off : Int} (tgt : Nat) (d : decode cc pc = .ok (.goto off, 3)) (ht : (pc : Int) + off = (tgt : Int)) (k : xW G E nL mc ms h tgt L st) : xW G E nL mc ms h pc L st := fun H locs cells slots ls hR hF hc hs hl => lv_goto C.1 C.2.1 d ht (k H locs cells slots ls hR hF hc hs hl)
theorem x_ifnonnull (C : xC G E y cc nL ret hh n) {x : Nat} {off : Int} (tgt : Nat) (d : decode cc pc = .ok (.ifnonnull off, 3)) (ht : (pc : Int) + off = (tgt : Int)) (k : xW G E nL mc ms h tgt L st) : xW G E nL mc ms h pc L (.ref x :: st) := fun H locs cells slots ls hR hF hc hs hl => lv_ifnonnull C.1 C.2.1 d ht (k H locs cells slots ls hR hF hc hs hl)
theorem x_ifnonnullN (C : xC G E y cc nL ret hh n) {off : Int} (d : decode cc pc = .ok (.ifnonnull off, 3)) (k : xW G E nL mc ms h (pc + 3) L st) : xW G E nL mc ms h pc L (.null :: st) := fun H locs cells slots ls hR hF hc hs hl => lv_ifnonnullN C.1 C.2.1 d (k H locs cells slots ls hR hF hc hs hl)
theorem x_ifnull (C : xC G E y cc nL ret hh n) {x : Nat} {off : Int} (d : decode cc pc = .ok (.ifnull off, 3)) (k : xW G E nL mc ms h (pc + 3) L st) : xW G E nL mc ms h pc L (.ref x :: st) := fun H locs cells slots ls hR hF hc hs hl => lv_ifnull C.1 C.2.1 d (k H locs cells slots ls hR hF hc hs hl)
theorem x_ifnullN (C : xC G E y cc nL ret hh n) {off : Int} (tgt : Nat) (d : decode cc pc = .ok (.ifnull off, 3)) (ht : (pc : Int) + off = (tgt : Int)) (k : xW G E nL mc ms h tgt L st) : xW G E nL mc ms h pc L (.null :: st) := fun H locs cells slots ls hR hF hc hs hl => lv_ifnullN C.1 C.2.1 d ht (k H locs cells slots ls hR hF hc hs hl)
theorem x_tableOut (C : xC G E y cc nL ret hh n) {dflt lo hi : Int} {offs : Array Int} {len : Nat} {x : Int32} (tgt : Nat) (d : decode cc pc = .ok (.tableswitch dflt lo hi offs, len)) (hx : x.toInt < lo ∨ hi < x.toInt) (ht : (pc : Int) + dflt = (tgt : Int)) (k : xW G E nL mc ms h tgt L st) : xW G E nL mc ms h pc L (.int x :: st) := fun H locs cells slots ls hR hF hc hs hl => lv_tableOut C.1 C.2.1 d hx ht (k H locs cells slots ls hR hF hc hs hl)
theorem x_tableIn (C : xC G E y cc nL ret hh n) {dflt lo hi : Int} {offs : Array Int} {len : Nat} {x : Int32} {off : Int} (tgt : Nat) (d : decode cc pc = .ok (.tableswitch dflt lo hi offs, len)) (h1 : ¬ x.toInt < lo) (h2 : ¬ hi < x.toInt) (ho : offs[(x.toInt - lo).toNat]? = some off) (ht : (pc : Int) + off = (tgt : Int)) (k : xW G E nL mc ms h tgt L st) : xW G E nL mc ms h pc L (.int x :: st) := fun H locs cells slots ls hR hF hc hs hl => lv_tableIn C.1 C.2.1 d h1 h2 ho ht (k H locs cells slots ls hR hF hc hs hl)
theorem x_lookup (C : xC G E y cc nL ret hh n) {dflt : Int} {ps : Array (Int × Int)} {len : Nat} {x : Int32} {off : Int} (tgt : Nat) (d : decode cc pc = .ok (.lookupswitch dflt ps, len)) (hp : (ps.toList.zip (ps.toList.drop 1)).all (fun (a, next) => a.1 < next.1) = true) (ho : Op.lookupswitch.offset ps.toList dflt x.toInt = off) (ht : (pc : Int) + off = (tgt : Int)) (k : xW G E nL mc ms h tgt L st) : xW G E nL mc ms h pc L (.int x :: st) := fun H locs cells slots ls hR hF hc hs hl => lv_lookup C.1 C.2.1 d hp ho ht (k H locs cells slots ls hR hF hc hs hl)
theorem x_topi {x : Int32} (k : ∀ v : Int32, v = x → xW G E nL mc ms h pc L (.int v :: st)) : xW G E nL mc ms h pc L (.int x :: st) := k x rfl
theorem x_toi {x : Int32} (v : Int32) (hv : x = v) (k : xW G E nL mc ms h pc L (.int v :: st)) : xW G E nL mc ms h pc L (.int x :: st) := hv ▸ k
theorem x_stk {st2 : List Value} (hv : st = st2) (k : xW G E nL mc ms h pc L st2) : xW G E nL mc ms h pc L st := hv ▸ k
theorem x_pc {pc2 : Nat} (hv : pc = pc2) (k : xW G E nL mc ms h pc2 L st) : xW G E nL mc ms h pc L st := hv ▸ k
/-- a word of the tables beyond the good ones -/
theorem xC.I (C : xC G E y cc nL ret hh n) : xI G (xEs E) := C.2.2.2.2.2.2.2.2.2.1
theorem xC.own (C : xC G E y cc nL ret hh n) : (xEs E).vm.findClass y.cls = some (xEm E).cls := C.2.2.2.2.2.1
theorem xC.ts (C : xC G E y cc nL ret hh n) : ∀ w ∈ lw_all, w.before E.2.2.2.2.2.2.1 (xEs E) = true := C.2.2.2.2.2.2.2.2.1
theorem xC.w (C : xC G E y cc nL ret hh n) {w : Cond} (hw : w ∈ lw_tbl) (g : xwk w = true) : va_Nw w (xEs E) := C.I.2.2.1 w hw g
theorem xC.wu (C : xC G E y cc nL ret hh n) {w : Cond} (hw : w ∈ lw_tbl) (g : xwk w = true) (a : Array Value) : w.before a (xEs E) = true := (C.w hw g).use (by
  unfold xwk at g
  simp only [Bool.and_eq_true] at g
  exact g.1)
theorem x_ldcS (C : xC G E y cc nL ret hh n) {index : Nat} {tx : String} (i : Nat) (d : decode cc pc = .ok (.ldc index, 2)) (hi : xsr[i]? = some (y.cls, index, tx)) (k : xW G E nL mc ms h (pc + 2) L (.ref (G.2.2.2.2.2 i) :: st)) : xW G E nL mc ms h pc L st :=
  fun H locs cells slots ls hR hF hc hs hl => va_ldcS C.1 C.2.1 C.own (C.I.2.2.2.2.2.2.2.2.1 i _ hi) d (k H locs cells slots ls hR hF hc hs hl)
theorem x_ldcwS (C : xC G E y cc nL ret hh n) {index : Nat} {tx : String} (i : Nat) (d : decode cc pc = .ok (.ldc_w index, 3)) (hi : xsr[i]? = some (y.cls, index, tx)) (k : xW G E nL mc ms h (pc + 3) L (.ref (G.2.2.2.2.2 i) :: st)) : xW G E nL mc ms h pc L st :=
  fun H locs cells slots ls hR hF hc hs hl => by
    intro T hT X
    have hZ := C.I.2.2.2.2.2.2.2.2.1 i _ hi
    have d' : decode E.2.2.2.2.2.2.2.2.2.1.code pc = .ok (.ldc_w index, 3) := by rw [C.2.1]; exact d
    obtain ⟨t, a1, b1⟩ := k H locs cells slots ls hR hF hc hs hl T hT X
    exact ⟨t, X.ldcStringW C.1 C.own (text := tx) (a := G.2.2.2.2.2 i) hZ.1 hZ.2 (g := F0 (xEm E) pc ls st) rfl d' t a1, b1⟩
theorem x_ldc (C : xC G E y cc nL ret hh n) {index : Nat} {v : Int32} (d : decode cc pc = .ok (.ldc index, 2)) (q : Jvm.Cond.constant y.cls index v ∈ lw_all) (k : xW G E nL mc ms h (pc + 2) L (.int v :: st)) : xW G E nL mc ms h pc L st :=
  fun H locs cells slots ls hR hF hc hs hl => lv_ldc C.1 C.2.1 C.own (C.ts _ q) d (k H locs cells slots ls hR hF hc hs hl)
theorem x_ldcf (C : xC G E y cc nL ret hh n) {index : Nat} {v : UInt32} (d : decode cc pc = .ok (.ldc index, 2)) (q : Jvm.Cond.constantFloat y.cls index v ∈ lw_all) (k : xW G E nL mc ms h (pc + 2) L (.float v :: st)) : xW G E nL mc ms h pc L st :=
  fun H locs cells slots ls hR hF hc hs hl => lv_ldcf C.1 C.2.1 C.own (C.ts _ q) d (k H locs cells slots ls hR hF hc hs hl)
theorem x_ldc2 (C : xC G E y cc nL ret hh n) {index : Nat} {v : Int64} (d : decode cc pc = .ok (.ldc2_w index, 3)) (q : Jvm.Cond.constantLong y.cls index v ∈ lw_all) (k : xW G E nL mc ms h (pc + 3) L (.long v :: st)) : xW G E nL mc ms h pc L st :=
  fun H locs cells slots ls hR hF hc hs hl => lv_ldc2 C.1 C.2.1 C.own (C.ts _ q) d (k H locs cells slots ls hR hF hc hs hl)
/-! what lies at an address -/
theorem xH.at (C : xC G E y cc nL ret hh n) {H : Heap} {locs : List Loc} (hR : xRep G h H) (hF : xF G (xEs E) H locs) {q : Nat} {o : xO} (hq : xH G h q o) : xAt G q o H := by
  rcases hq with hq | hq
  · exact (hR q o hq).2
  · exact (C.I.keptC hF hq).2
/-- the receiver of a call -/
theorem xH.recv (C : xC G E y cc nL ret hh n) {H : Heap} {locs : List Loc} (hR : xRep G h H) (hF : xF G (xEs E) H locs) {q ci : Nat} {V : Nat → Value} (hq : xH G h q (xob ci V)) {r : vw_C} (hr : xcl[ci]? = some r) : ∃ cell : Cell, H[q]? = some cell ∧ cell.vm.isStatics = false ∧ (xEs E).vm.findClass r.1 = some cell.cls := by
  obtain ⟨r', h1, cell, h2, h3, h4, -⟩ := hq.at C hR hF
  cases hr.symm.trans h1
  exact ⟨cell, h2, by rw [h4]; rfl, by rw [h3]; exact (C.I.1 ci r hr).1.1⟩
/-- a field's pool entry: by the class's own words, or a nest mate's -/
def xFl (own : String) (index ci k : Nat) : Prop := ∃ (C : String) (T : u_T) (N : Nat) (ref : String), xcl[ci]? = some (C, T, N) ∧ k < N ∧ ((Cond.fieldLink own index ref (T k).2.1 (T k).2.2.1 ∈ lw_all) ∨ ∃ host, Cond.fieldLinkNest own index ref (T k).2.1 (T k).2.2.1 host ∈ lw_tbl) ∧ (ref = (T k).1 ∨ Cond.sameField ref (T k).1 (T k).2.1 (T k).2.2.1 ∈ lw_all)
theorem x_getf (C : xC G E y cc nL ret hh n) {index ci k a : Nat} {V : Nat → Value} {v : Value} (d : decode cc pc = .ok (.getfield index, 3)) (hf : xFl y.cls index ci k) (ha : xH G h a (xob ci V)) (hv : V k = v)
    (kk : xW G E nL mc ms h (pc + 3) L (v :: st)) : xW G E nL mc ms h pc L (.ref a :: st) := fun H locs cells slots ls hR hF hc hs hl => by
  obtain ⟨Cn, T, N, ref, hcl, hk, hw, hsame⟩ := hf
  obtain ⟨r', h1, cell, h2, h3, h4, h5⟩ := ha.at C hR hF
  cases hcl.symm.trans h1
  obtain ⟨cf, kf, fi, f, hi, hst, hsl⟩ := (C.I.1 ci _ hcl).2 k hk
  have hi2 : (xEs E).fieldFound? ref (T k).2.1 (T k).2.2.1 = some (cf, kf, fi, f) := by
    rcases hsame with e | hsm
    · rw [e]; exact hi
    · exact u_same (C.ts _ hsm) _ hi
  have hslot : cell.slots[f.slot]? = some v := by rw [hsl, h5 k hk]; exact congrArg some hv
  have hkn : cell.vm ≠ .unknown := by rw [h4]; exact fun h => by cases h
  have K := kk H locs cells slots ls hR hF hc hs hl
  rcases hw with hw | ⟨host, hw⟩
  · exact W.getf C.1 C.2.1 C.own (C.ts _ hw) hi2 hst h2 hkn hslot rfl rfl d K
  · exact va_Wgetf C.1 C.2.1 C.own (C.wu hw rfl _) hi2 hst h2 hkn hslot rfl rfl d K
theorem xRep.set {H : Heap} (hR : xRep G h H) {a : Nat} {o : xO} {H1 : Heap} (hz : xz G ≤ a) (h1 : xAt G a o H1) (h2 : ∀ q, q ≠ a → H1[q]? = H[q]?) : xRep G (xset h a o) H1 := by
  intro q o' hq
  unfold xset at hq
  by_cases e : q = a
  · rw [if_pos e] at hq
    cases hq
    rw [e]
    exact ⟨hz, h1⟩
  · rw [if_neg e] at hq
    exact ⟨(hR q o' hq).1, (hR q o' hq).2.kept (h2 q e)⟩
theorem xF.put {s : State} {H H1 : Heap} {locs : List Loc} {a k : Nat} (hF : xF G s H locs) (hz : xz G ≤ a) (e1 : H1.size = H.size) (e2 : ∀ q : Nat, q ≠ a → H1[q]? = H[q]?) : xF G s H1 (locs ++ [⟨a, k⟩]) := va_S.put hF e1 e2 hz
theorem xF.push {s : State} {H H1 : Heap} {locs : List Loc} (hF : xF G s H locs) (e1 : H1.size = H.size + 1) (e2 : ∀ q : Nat, q < H.size → H1[q]? = H[q]?) : xF G s H1 locs := ⟨Nat.le_trans hF.1 (by omega), fun q h1 h2 => (e2 q (Nat.lt_of_lt_of_le h1 hF.1)).trans (hF.2.1 q h1 h2), hF.2.2⟩
theorem xRep.push {H : Heap} (hR : xRep G h H) {o : xO} {H1 : Heap} (hz : xz G ≤ H.size) (h1 : xAt G H.size o H1) (h2 : ∀ q : Nat, q < H.size → H1[q]? = H[q]?) : h H.size = none ∧ xRep G (xset h H.size o) H1 := by
  refine ⟨?_, ?_⟩
  · cases hx : h H.size with
    | none => rfl
    | some o' => exact absurd (hR _ _ hx).2.lt (Nat.lt_irrefl _)
  · intro q o' hq
    unfold xset at hq
    by_cases e : q = H.size
    · rw [if_pos e] at hq
      cases hq
      rw [e]
      exact ⟨hz, h1⟩
    · rw [if_neg e] at hq
      exact ⟨(hR q o' hq).1, (hR q o' hq).2.kept (h2 q (hR q o' hq).2.lt)⟩
theorem x_apart {args : Array Value} {s : State} {Cn o1 n1 d1 o2 n2 d2 : String} (h1 : (Cond.laysFinal Cn o1 n1 d1).before args s = true) (h2 : (Cond.laysFinal Cn o2 n2 d2).before args s = true) {c k i f c' k' i' f'} (hf : s.fieldFound? o1 n1 d1 = some (c, k, i, f)) (hf' : s.fieldFound? o2 n2 d2 = some (c', k', i', f')) (hne : o1 ≠ o2) : f.slot ≠ f'.slot := by
  obtain ⟨a, _, _, kk, _, _, ha, _, hg, _, _, _, ho, _, e, he, hen, _⟩ := Cond.laysFinal_spec h1
  obtain ⟨a', _, _, kk', _, _, ha', _, hg', _, _, _, ho', _, e', he', hen', _⟩ := Cond.laysFinal_spec h2
  cases hf.symm.trans hg
  cases hf'.symm.trans hg'
  cases ha.symm.trans ha'
  intro hs
  rw [hs] at he
  cases he.symm.trans he'
  obtain ⟨k1, q1, q2⟩ := Vm.findClass_spec ho
  obtain ⟨k2, q3, q4⟩ := Vm.findClass_spec ho'
  have r1 := (State.fieldFound?_spec hf).1
  have r2 := (State.fieldFound?_spec hf').1
  cases q1.symm.trans r1
  cases q3.symm.trans r2
  exact hne (by rw [← q2, ← q4, ← hen, ← hen'])
/-- putfield: the new heap is told by the goal that follows -/
theorem x_putf (C : xC G E y cc nL ret hh n) {index ci k a : Nat} {V : Nat → Value} {v : Value} {Cn : String} {T : u_T} {N : Nat} {ty : Nat → FieldType} (d : decode cc pc = .ok (.putfield index, 3)) (hf : xFl y.cls index ci k) (hcl : xcl[ci]? = some (Cn, T, N)) (cf : xCF Cn T N ty) (ha : h a = some (xob ci V))
    (hfin : (T k).2.2.2 = false ∨ (y.name = "<init>" ∧ (T k).1 = y.cls ∧ (T k).2.2.2 = true)) (hn : narrow (ty k) v = v) (hfit : fits (ty k) v = true)
    (kk : xW G E nL mc ms (xset h a (xob ci (updV V k v))) (pc + 3) L st) : xW G E nL mc ms h pc L (v :: .ref a :: st) := fun H locs cells slots ls hR hF hc hs hl => by
  obtain ⟨Cn', T', N', ref, hcl', hk, hw, hsame⟩ := hf
  cases hcl.symm.trans hcl'
  obtain ⟨hin, hty, hnm⟩ := cf
  have hz : xz G ≤ a := (hR a _ ha).1
  obtain ⟨r', h1, cell, h2, h3, h4, h5⟩ := (hR a _ ha).2
  cases hcl.symm.trans h1
  have hKn := C.I.1 ci _ hcl
  have hfc := hKn.1.1
  obtain ⟨kC, hkC, hkind⟩ := hKn.1.2
  obtain ⟨cf, kf, fi, f, hi, hst, hsl⟩ := hKn.2 k hk
  have hi2 : (xEs E).fieldFound? ref (T k).2.1 (T k).2.2.1 = some (cf, kf, fi, f) := by
    rcases hsame with e | hsm
    · rw [e]; exact hi
    · exact u_same (C.ts _ hsm) _ hi
  have hap : ∀ i j, i < N → j < N → i ≠ j → G.1.2 ci i ≠ G.1.2 ci j := by
    intro i j hi' hj' hne
    obtain ⟨_, _, _, fa, hia, -, ea⟩ := hKn.2 i hi'
    obtain ⟨_, _, _, fb, hib, -, eb⟩ := hKn.2 j hj'
    rw [← ea, ← eb]
    rcases hnm i hi' j hj' hne with h9 | ⟨h9, f1, f2⟩
    · refine u_apart (u_lays C.ts hin hi') (u_lays C.ts hin hj') hia hib ?_
      rw [(State.fieldFound?_type hia (hty i hi')).1, (State.fieldFound?_type hib (hty j hj')).1]
      exact h9
    · have l1 := C.ts _ (hin _ (u_in_lay hi'))
      have l2 := C.ts _ (hin _ (u_in_lay hj'))
      unfold u_lay at l1 l2
      rw [if_pos f1] at l1
      rw [if_pos f2] at l2
      exact x_apart l1 l2 hia hib h9
  have hlt : f.slot < cell.slots.size := by rw [hsl]; exact k2_hasslot (h5 k hk)
  have fin : ∀ (H1 : Heap), H1[a]? = some (cell.setSlot f.slot v) → H1.size = H.size → (∀ q, q ≠ a → H1[q]? = H[q]?) → xW0 E H1 (locs ++ [⟨a, f.slot⟩]) cells slots (F0 (xEm E) (pc + 3) ls st) := by
    intro H1 e1 e2 e3
    refine kk H1 _ cells slots ls (hR.set hz ?_ e3) (hF.put hz e2 e3) hc hs hl
    refine ⟨_, hcl, _, e1, h3, h4, ?_⟩
    rw [hsl]
    exact t_set h5 hap hk v
  have hlay := C.ts _ (hin _ (u_in_lay hk))
  unfold u_lay at hlay
  rcases hfin with hfin | ⟨hy, hd, hfin⟩
  · rw [if_neg (by rw [hfin]; decide)] at hlay
    have h6 := u_store hfc hkC hkind hlay hi (hty k hk) hn hfit
    rcases hw with hw | ⟨host, hw⟩
    · exact W.putK C.1 C.2.1 (f := f) ⟨C.own, C.ts _ hw, ⟨_, _, _, hi2⟩, hst⟩ (by rw [h3]; exact h6) h2 h4 hlt rfl rfl d fin
    · exact va_WputK C.1 C.2.1 (f := f) C.own (C.wu hw rfl _) hi2 hst (by rw [h3]; exact h6) h2 h4 hlt rfl rfl d fin
  · rw [if_pos hfin] at hlay
    have h6 := u_fits hfc hkC hkind (Or.inr hlay) hi (hty k hk) hn hfit
    have hcf : (xEm E).cls = cf := by
      obtain ⟨_, _, c', _, _, _, -, -, hf', -, -, -, hown2, -⟩ := Cond.laysFinal_spec hlay
      have e1 : c' = cf := by have := hi.symm.trans hf'; simp at this; exact this.1.symm
      rw [hd] at hown2
      rw [← e1]; exact Option.some.inj (C.own.symm.trans hown2)
    have hnm9 : E.2.2.2.2.2.2.2.2.1.name = "<init>" := C.2.2.2.2.2.2.1.trans hy
    rcases hw with hw | ⟨host, hw⟩
    · exact W.putFinK C.1 C.2.1 C.own (C.ts _ hw) hi2 hst hcf hnm9 (by rw [h3]; exact h6) h2 h4 hlt rfl rfl d fin
    · refine va_Wputf C.1 C.2.1 C.own (C.wu hw rfl _) hi2 hst (Or.inr ⟨hcf, hnm9⟩) h2 (by rw [h4]; exact fun h => by cases h) hlt h6.1 (by rw [h3, h4]; exact h6.2) rfl rfl d ?_
      have ha9 : a < H.size := (Array.getElem?_eq_some_iff.mp h2).1
      exact fin _ (by simp [Array.getElem?_setIfInBounds, ha9]) (by simp) (fun q hq => by simp [Array.getElem?_setIfInBounds, Ne.symm hq])
theorem updV_l {fs : List Value} {k : Nat} (hk : k < fs.length) (v : Value) : updV (vp_V fs) k v = vp_V (fs.set k v) := funext fun j => vp_updV_set hk v j
/-- putfield of an object told by a list -/
theorem x_putl (C : xC G E y cc nL ret hh n) {index ci k a : Nat} {fs : List Value} {v : Value} {Cn : String} {T : u_T} {N : Nat} {ty : Nat → FieldType} (d : decode cc pc = .ok (.putfield index, 3)) (hf : xFl y.cls index ci k) (hcl : xcl[ci]? = some (Cn, T, N)) (cf : xCF Cn T N ty) (ha : h a = some (xob ci (vp_V fs)))
    (hfin : (T k).2.2.2 = false ∨ (y.name = "<init>" ∧ (T k).1 = y.cls ∧ (T k).2.2.2 = true)) (hn : narrow (ty k) v = v) (hfit : fits (ty k) v = true) (hk : k < fs.length) (fs2 : List Value) (h2 : fs.set k v = fs2)
    (kk : xW G E nL mc ms (xset h a (xob ci (vp_V fs2))) (pc + 3) L st) : xW G E nL mc ms h pc L (v :: .ref a :: st) :=
  x_putf C d hf hcl cf ha hfin hn hfit (by rw [updV_l hk, h2]; exact kk)
/-- getstatic -/
def xSl (own : String) (index i : Nat) : Prop := ∃ (r : String × String × String) (ref : String), xsf[i]? = some r ∧ ((Cond.fieldLink own index ref r.2.1 r.2.2 ∈ lw_all) ∨ ∃ host, Cond.fieldLinkNest own index ref r.2.1 r.2.2 host ∈ lw_tbl) ∧ (ref = r.1)
theorem x_gets (C : xC G E y cc nL ret hh n) {index i : Nat} {v : Value} (d : decode cc pc = .ok (.getstatic index, 3)) (hf : xSl y.cls index i) (hv : G.2.2.2.2.1 i = v) (kk : xW G E nL mc ms h (pc + 3) L (v :: st)) : xW G E nL mc ms h pc L st := fun H locs cells slots ls hR hF hc hs hl => by
  obtain ⟨r, ref, hi, hw, hsame⟩ := hf
  subst hv
  have hZ := C.I.2.2.2.2.2.2.2.2.2.1 i r hi
  have K := kk H locs cells slots ls hR hF hc hs hl
  rcases hw with hw | ⟨host, hw⟩
  · exact va_gets C.1 C.2.1 hZ hF C.own (C.ts _ hw) (fun x hx => by rw [hsame]; exact hx) d K
  · exact va_getsN C.1 C.2.1 hZ hF C.own (C.w hw rfl) (fun x hx => by rw [hsame]; exact hx) d K
/-- new -/
theorem x_new (C : xC G E y cc nL ret hh n) {index ci : Nat} {Cn : String} {T : u_T} {N : Nat} {ty : Nat → FieldType} {fs : List Value} (d : decode cc pc = .ok (.new index, 3)) (q1 : Cond.classLink y.cls index Cn ∈ lw_all) (q2 : Cond.instantiable Cn N ∈ lw_all) (q3 : Cond.initialized Cn ∈ lw_all) (hcl : xcl[ci]? = some (Cn, T, N)) (cf : xCF Cn T N ty) (hfs : ∀ j, j < N → defaultValue (ty j) = vp_V fs j) (hm : mc = mc' + 1) (hm2 : ms = ms' + N)
    (kk : ∀ a : Nat, h a = none → xz G ≤ a → xW G E nL mc' ms' (xset h a (xob ci (vp_V fs))) (pc + 3) L (.ref a :: st)) : xW G E nL mc ms h pc L st := fun H locs cells slots ls hR hF hc hs hl => by
  subst hm; subst hm2
  obtain ⟨hin, hty, hnm⟩ := cf
  have hKn := C.I.1 ci _ hcl
  have hzz : xz G ≤ H.size := Nat.le_trans C.I.2.2.2.2.2.2.2.2.2.2.2.2 hF.1
  have hc' : cells + 1 + mc' ≤ (xER E).cells := by omega
  have hs' : slots + N + ms' ≤ (xER E).slots := by omega
  have hc1 : cells + 1 ≤ (xER E).cells := by omega
  have hs1 : slots + N ≤ (xER E).slots := by omega
  refine W.newcK C.1 C.2.1 C.own (C.ts _ q1) (C.ts _ q2) (C.ts _ q3) rfl d hc1 hs1 hKn.1.1 rfl fun H1 kC hkC e1 z1 o1 => ?_
  have hat : xAt G H.size (xob ci (vp_V fs)) H1 := by
    refine ⟨_, hcl, _, e1, rfl, rfl, fun k hk => ?_⟩
    obtain ⟨cf, kf, fi, f, hi, hst, hsl⟩ := hKn.2 k hk
    have h3 := (u_facts hKn.1.1 hkC (u_lays C.ts hin hk) hi).2.2
    rw [(State.fieldFound?_type hi (hty k hk)).2] at h3
    show (blank (G.1.1 ci) kC).slots[G.1.2 ci k]? = some (vp_V fs k)
    rw [← hsl, ← hfs k hk]
    exact k2_blank h3
  obtain ⟨hn, hR1⟩ := hR.push (o := xob ci (vp_V fs)) hzz hat o1
  exact kk H.size hn hzz H1 locs _ _ ls hR1 (hF.push z1 o1) hc' hs' hl
/-- newarray -/
theorem x_newa (C : xC G E y cc nL ret hh n) {atype : ArrayType} (ak : Nat) {ty : FieldType} {x : Int32} {N : Nat} (a0 : vp_A) (d : decode cc pc = .ok (.newarray atype, 2)) (hty : newarray.typeOf atype = ty) (q1 : Cond.arrayClass ty ∈ lw_all) (hak : xty[ak]? = some ty) (hno : ∀ Cn, ty ≠ .object Cn) (ha : ∀ cA : ClassId, vp_cell cA a0 = arrV cA N (fun _ => defaultValue ty)) (hx : ¬ x < 0) (hN : x.toNatClampNeg = N) (hb : N * componentBytes ty ≤ 536870912) (hm : mc = mc' + 1) (hm2 : ms = ms' + N)
    (kk : ∀ a : Nat, h a = none → xz G ≤ a → xW G E nL mc' ms' (xset h a (.inr (ak, a0))) (pc + 2) L (.ref a :: st)) : xW G E nL mc ms h pc L (.int x :: st) := fun H locs cells slots ls hR hF hc hs hl => by
  subst hm; subst hm2; subst hty
  have hzz : xz G ≤ H.size := Nat.le_trans C.I.2.2.2.2.2.2.2.2.2.2.2.2 hF.1
  have hc' : cells + 1 + mc' ≤ (xER E).cells := by omega
  have hs' : slots + N + ms' ≤ (xER E).slots := by omega
  have hc1 : cells + 1 ≤ (xER E).cells := by omega
  have hs1 : slots + N ≤ (xER E).slots := by omega
  refine va_newaK C.1 C.2.1 (C.ts _ q1) rfl d rfl hx hN hb hc1 hs1 rfl fun H1 cA e1 z1 o1 hAr hNm => ?_
  have hid : cA = G.2.1 ak := by
    have h2 := (C.I.2.1 ak _ hak).2
    unfold va_RA at h2
    split at h2
    · rename_i Cn heq; exact absurd heq (hno Cn)
    · exact Option.some.inj (hNm.symm.trans h2)
  subst hid
  obtain ⟨hn, hR1⟩ := hR.push (o := .inr (ak, a0)) hzz (by show H1[H.size]? = some (vp_cell (G.2.1 ak) a0); rw [ha]; exact e1) o1
  exact kk H.size hn hzz H1 locs _ _ ls hR1 (hF.push z1 o1) hc' hs' hl
/-- anewarray -/
theorem x_newq (C : xC G E y cc nL ret hh n) {index : Nat} (ak : Nat) {Cn : String} {x : Int32} {N : Nat} (d : decode cc pc = .ok (.anewarray index, 3)) (q1 : Cond.classLink y.cls index Cn ∈ lw_all) (hAO : va_AO Cn (xEs E)) (hak : xty[ak]? = some (.object Cn)) (hx : ¬ x < 0) (hN : x.toNatClampNeg = N) (hb : N * 4 ≤ 536870912) (hm : mc = mc' + 1) (hm2 : ms = ms' + N)
    (kk : ∀ a : Nat, h a = none → xz G ≤ a → xW G E nL mc' ms' (xset h a (xaq ak N (fun _ => none))) (pc + 3) L (.ref a :: st)) : xW G E nL mc ms h pc L (.int x :: st) := fun H locs cells slots ls hR hF hc hs hl => by
  subst hm; subst hm2; subst hN
  have hzz : xz G ≤ H.size := Nat.le_trans C.I.2.2.2.2.2.2.2.2.2.2.2.2 hF.1
  have hc' : cells + 1 + mc' ≤ (xER E).cells := by omega
  have hs' : slots + x.toNatClampNeg + ms' ≤ (xER E).slots := by omega
  have hc1 : cells + 1 ≤ (xER E).cells := by omega
  have hs1 : slots + x.toNatClampNeg ≤ (xER E).slots := by omega
  refine W.anew C.1 C.2.1 C.own (C.ts _ q1) (va_AO.use hAO) rfl d rfl hx hb hc1 hs1 fun cA kA comp f1 f2 f3 f4 => ?_
  have hid : cA = G.2.1 ak := by
    obtain ⟨kA', comp', -, -, -, h4⟩ := (C.I.2.1 ak _ hak).2
    exact Option.some.inj (f1.symm.trans h4)
  subst hid
  generalize hH1 : H.push ({ cls := G.2.1 ak, slots := Array.replicate x.toNatClampNeg .null, vm := .none } : Cell) = H1
  have z1 : H1.size = H.size + 1 := by rw [← hH1, Array.size_push]
  have e1 : H1[H.size]? = some (arrV (G.2.1 ak) x.toNatClampNeg (fun _ => .null)) := by rw [← hH1, Array.getElem?_push_size, ← arrV_new]
  have o1 : ∀ q : Nat, q < H.size → H1[q]? = H[q]? := fun q hq => by rw [← hH1, Array.getElem?_push, if_neg (Nat.ne_of_lt hq)]
  obtain ⟨hn, hR1⟩ := hR.push (o := xaq ak x.toNatClampNeg (fun _ => none)) hzz (by show H1[H.size]? = some (vp_cell (G.2.1 ak) _); rw [vp_cell_q]; exact e1) o1
  exact kk H.size hn hzz H1 locs _ _ ls hR1 (hF.push z1 o1) hc' hs' hl
theorem x_iald (C : xC G E y cc nL ret hh n) {ak a N : Nat} {f : Nat → Int32} {i : Int32} (d : decode cc pc = .ok (.iaload, 1)) (hak : xty[ak]? = some .int) (ha : xH G h a (xar ak N f)) (hi : vp_in i N) {v : Int32} (hv : f i.toNatClampNeg = v) (kk : xW G E nL mc ms h (pc + 1) L (.int (v) :: st)) : xW G E nL mc ms h pc L (.int i :: .ref a :: st) := fun H locs cells slots ls hR hF hc hs hl => by
  subst hv
  have hlt : i.toNatClampNeg < N := Nat.not_le.mp fun q => hi (Or.inr q)
  have hcell : H[a]? = some (vp_cell (G.2.1 ak) _) := ha.at C hR hF
  exact W.iald (v := .int (f i.toNatClampNeg)) C.1 C.2.1 hcell ((C.I.2.1 ak _ hak).1 N (fun j => .int (f j))) (fun q => by cases q) (by show ¬ (i < 0 ∨ (arrV _ _ _).slots.size ≤ _); rw [arrV_size]; exact hi) (by show (arrV _ _ _).slots[_]? = _; rw [arrV_read _ _ hlt]) rfl rfl d (kk H locs cells slots ls hR hF hc hs hl)
theorem x_bald (C : xC G E y cc nL ret hh n) {ak a N : Nat} {f : Nat → Int32} {i : Int32} (d : decode cc pc = .ok (.baload, 1)) (hak : xty[ak]? = some .byte) (ha : xH G h a (xar ak N f)) (hi : vp_in i N) {v : Int32} (hv : f i.toNatClampNeg = v) (kk : xW G E nL mc ms h (pc + 1) L (.int (v) :: st)) : xW G E nL mc ms h pc L (.int i :: .ref a :: st) := fun H locs cells slots ls hR hF hc hs hl => by
  subst hv
  have hlt : i.toNatClampNeg < N := Nat.not_le.mp fun q => hi (Or.inr q)
  have hcell : H[a]? = some (vp_cell (G.2.1 ak) _) := ha.at C hR hF
  exact W.bald (v := .int (f i.toNatClampNeg)) C.1 C.2.1 hcell ((C.I.2.1 ak _ hak).1 N (fun j => .int (f j))) (fun q => by cases q) (by show ¬ (i < 0 ∨ (arrV _ _ _).slots.size ≤ _); rw [arrV_size]; exact hi) (by show (arrV _ _ _).slots[_]? = _; rw [arrV_read _ _ hlt]) rfl rfl d (kk H locs cells slots ls hR hF hc hs hl)
theorem x_zald (C : xC G E y cc nL ret hh n) {ak a N : Nat} {f : Nat → Int32} {i : Int32} (d : decode cc pc = .ok (.baload, 1)) (hak : xty[ak]? = some .boolean) (ha : xH G h a (xar ak N f)) (hi : vp_in i N) {v : Int32} (hv : f i.toNatClampNeg = v) (kk : xW G E nL mc ms h (pc + 1) L (.int (v) :: st)) : xW G E nL mc ms h pc L (.int i :: .ref a :: st) := fun H locs cells slots ls hR hF hc hs hl => by
  subst hv
  have hlt : i.toNatClampNeg < N := Nat.not_le.mp fun q => hi (Or.inr q)
  have hcell : H[a]? = some (vp_cell (G.2.1 ak) _) := ha.at C hR hF
  exact W.zald (v := .int (f i.toNatClampNeg)) C.1 C.2.1 hcell ((C.I.2.1 ak _ hak).1 N (fun j => .int (f j))) (fun q => by cases q) (by show ¬ (i < 0 ∨ (arrV _ _ _).slots.size ≤ _); rw [arrV_size]; exact hi) (by show (arrV _ _ _).slots[_]? = _; rw [arrV_read _ _ hlt]) rfl rfl d (kk H locs cells slots ls hR hF hc hs hl)
theorem x_cald (C : xC G E y cc nL ret hh n) {ak a N : Nat} {f : Nat → Int32} {i : Int32} (d : decode cc pc = .ok (.caload, 1)) (hak : xty[ak]? = some .char) (ha : xH G h a (xar ak N f)) (hi : vp_in i N) {v : Int32} (hv : f i.toNatClampNeg = v) (kk : xW G E nL mc ms h (pc + 1) L (.int (v) :: st)) : xW G E nL mc ms h pc L (.int i :: .ref a :: st) := fun H locs cells slots ls hR hF hc hs hl => by
  subst hv
  have hlt : i.toNatClampNeg < N := Nat.not_le.mp fun q => hi (Or.inr q)
  have hcell : H[a]? = some (vp_cell (G.2.1 ak) _) := ha.at C hR hF
  exact W.cald (v := .int (f i.toNatClampNeg)) C.1 C.2.1 hcell ((C.I.2.1 ak _ hak).1 N (fun j => .int (f j))) (fun q => by cases q) (by show ¬ (i < 0 ∨ (arrV _ _ _).slots.size ≤ _); rw [arrV_size]; exact hi) (by show (arrV _ _ _).slots[_]? = _; rw [arrV_read _ _ hlt]) rfl rfl d (kk H locs cells slots ls hR hF hc hs hl)
theorem x_lald (C : xC G E y cc nL ret hh n) {ak a N : Nat} {f : Nat → Int64} {i : Int32} (d : decode cc pc = .ok (.laload, 1)) (hak : xty[ak]? = some .long) (ha : xH G h a (xal ak N f)) (hi : vp_in i N) {v : Int64} (hv : f i.toNatClampNeg = v) (kk : xW G E nL mc ms h (pc + 1) L (.long (v) :: st)) : xW G E nL mc ms h pc L (.int i :: .ref a :: st) := fun H locs cells slots ls hR hF hc hs hl => by
  subst hv
  have hlt : i.toNatClampNeg < N := Nat.not_le.mp fun q => hi (Or.inr q)
  have hcell : H[a]? = some (vp_cell (G.2.1 ak) _) := ha.at C hR hF
  exact W.lald (v := .long (f i.toNatClampNeg)) C.1 C.2.1 hcell ((C.I.2.1 ak _ hak).1 N (fun j => .long (f j))) (fun q => by cases q) (by show ¬ (i < 0 ∨ (arrV _ _ _).slots.size ≤ _); rw [arrV_size]; exact hi) (by show (arrV _ _ _).slots[_]? = _; rw [arrV_read _ _ hlt]) rfl rfl d (kk H locs cells slots ls hR hF hc hs hl)
theorem x_aald (C : xC G E y cc nL ret hh n) {ak a N : Nat} {Cn : String} {f : Nat → Option Nat} {i : Int32} (d : decode cc pc = .ok (.aaload, 1)) (hak : xty[ak]? = some (.object Cn)) (ha : xH G h a (xaq ak N f)) (hi : vp_in i N) {v : Value} (hv : va_rf (f i.toNatClampNeg) = v) (kk : xW G E nL mc ms h (pc + 1) L (v :: st)) : xW G E nL mc ms h pc L (.int i :: .ref a :: st) := fun H locs cells slots ls hR hF hc hs hl => by
  subst hv
  have hlt : i.toNatClampNeg < N := Nat.not_le.mp fun q => hi (Or.inr q)
  have hcell : H[a]? = some (vp_cell (G.2.1 ak) _) := ha.at C hR hF
  exact W.aald (v := va_rf (f i.toNatClampNeg)) (ty := .object Cn) C.1 C.2.1 hcell ((C.I.2.1 ak _ hak).1 N (fun j => va_rf (f j))) rfl (fun q => by cases q) (by show ¬ (i < 0 ∨ (arrV _ _ _).slots.size ≤ _); rw [arrV_size]; exact hi) (by show (arrV _ _ _).slots[_]? = _; rw [arrV_read _ _ hlt]) rfl rfl d (kk H locs cells slots ls hR hF hc hs hl)
theorem x_iast (C : xC G E y cc nL ret hh n) {ak a N : Nat} {f : Nat → Int32} {i : Int32} {x : Int32} (d : decode cc pc = .ok (.iastore, 1)) (hak : xty[ak]? = some .int) (ha : h a = some (xar ak N f)) (hi : vp_in i N) (kk : xW G E nL mc ms (xset h a (xar ak N (va_up f i.toNatClampNeg x))) (pc + 1) L st) : xW G E nL mc ms h pc L (.int x :: .int i :: .ref a :: st) := fun H locs cells slots ls hR hF hc hs hl => by
  have hz : xz G ≤ a := (hR a _ ha).1
  have hcell : H[a]? = some (vp_cell (G.2.1 ak) _) := (hR a _ ha).2
  refine W.iast C.1 C.2.1 hcell ((C.I.2.1 ak _ hak).1 N (fun j => .int (f j))) (fun q => by cases q) (by show ¬ (i < 0 ∨ (arrV _ _ _).slots.size ≤ _); rw [arrV_size]; exact hi) rfl rfl d fun H1 e z oq => ?_
  refine kk H1 _ cells slots ls (hR.set hz ?_ oq) (hF.put hz z oq) hc hs hl
  show H1[a]? = some (vp_cell _ _)
  rw [e]
  rw [vp_cell_i, vp_cell_i, arrV_store]
  congr 2
  funext q
  by_cases hq : q = i.toNatClampNeg
  · subst hq
    simp [updV, va_up]
  · simp [updV, va_up, hq]
theorem x_bast (C : xC G E y cc nL ret hh n) {ak a N : Nat} {f : Nat → Int32} {i : Int32} {x : Int32} (d : decode cc pc = .ok (.bastore, 1)) (hak : xty[ak]? = some .byte) (ha : h a = some (xar ak N f)) (hi : vp_in i N) (kk : xW G E nL mc ms (xset h a (xar ak N (va_up f i.toNatClampNeg (vp_nar .byte x)))) (pc + 1) L st) : xW G E nL mc ms h pc L (.int x :: .int i :: .ref a :: st) := fun H locs cells slots ls hR hF hc hs hl => by
  have hz : xz G ≤ a := (hR a _ ha).1
  have hcell : H[a]? = some (vp_cell (G.2.1 ak) _) := (hR a _ ha).2
  refine W.bast C.1 C.2.1 hcell ((C.I.2.1 ak _ hak).1 N (fun j => .int (f j))) (fun q => by cases q) (by show ¬ (i < 0 ∨ (arrV _ _ _).slots.size ≤ _); rw [arrV_size]; exact hi) rfl rfl d fun H1 e z oq => ?_
  refine kk H1 _ cells slots ls (hR.set hz ?_ oq) (hF.put hz z oq) hc hs hl
  show H1[a]? = some (vp_cell _ _)
  rw [e]
  rw [vp_cell_i, vp_cell_i, arrV_store]
  congr 2
  funext q
  by_cases hq : q = i.toNatClampNeg
  · subst hq
    simp [updV, va_up, vp_nar, narrow]
  · simp [updV, va_up, hq]
theorem x_zast (C : xC G E y cc nL ret hh n) {ak a N : Nat} {f : Nat → Int32} {i : Int32} {x : Int32} (d : decode cc pc = .ok (.bastore, 1)) (hak : xty[ak]? = some .boolean) (ha : h a = some (xar ak N f)) (hi : vp_in i N) (kk : xW G E nL mc ms (xset h a (xar ak N (va_up f i.toNatClampNeg (vp_nar .boolean x)))) (pc + 1) L st) : xW G E nL mc ms h pc L (.int x :: .int i :: .ref a :: st) := fun H locs cells slots ls hR hF hc hs hl => by
  have hz : xz G ≤ a := (hR a _ ha).1
  have hcell : H[a]? = some (vp_cell (G.2.1 ak) _) := (hR a _ ha).2
  refine W.zast C.1 C.2.1 hcell ((C.I.2.1 ak _ hak).1 N (fun j => .int (f j))) (fun q => by cases q) (by show ¬ (i < 0 ∨ (arrV _ _ _).slots.size ≤ _); rw [arrV_size]; exact hi) rfl rfl d fun H1 e z oq => ?_
  refine kk H1 _ cells slots ls (hR.set hz ?_ oq) (hF.put hz z oq) hc hs hl
  show H1[a]? = some (vp_cell _ _)
  rw [e]
  rw [vp_cell_i, vp_cell_i, arrV_store]
  congr 2
  funext q
  by_cases hq : q = i.toNatClampNeg
  · subst hq
    simp [updV, va_up, vp_nar, narrow]
  · simp [updV, va_up, hq]
theorem x_last (C : xC G E y cc nL ret hh n) {ak a N : Nat} {f : Nat → Int64} {i : Int32} {x : Int64} (d : decode cc pc = .ok (.lastore, 1)) (hak : xty[ak]? = some .long) (ha : h a = some (xal ak N f)) (hi : vp_in i N) (kk : xW G E nL mc ms (xset h a (xal ak N (va_up f i.toNatClampNeg x))) (pc + 1) L st) : xW G E nL mc ms h pc L (.long x :: .int i :: .ref a :: st) := fun H locs cells slots ls hR hF hc hs hl => by
  have hz : xz G ≤ a := (hR a _ ha).1
  have hcell : H[a]? = some (vp_cell (G.2.1 ak) _) := (hR a _ ha).2
  refine W.last C.1 C.2.1 hcell ((C.I.2.1 ak _ hak).1 N (fun j => .long (f j))) (fun q => by cases q) (by show ¬ (i < 0 ∨ (arrV _ _ _).slots.size ≤ _); rw [arrV_size]; exact hi) rfl rfl d fun H1 e z oq => ?_
  refine kk H1 _ cells slots ls (hR.set hz ?_ oq) (hF.put hz z oq) hc hs hl
  show H1[a]? = some (vp_cell _ _)
  rw [e]
  rw [vp_cell_l, vp_cell_l, arrV_store]
  congr 2
  funext q
  by_cases hq : q = i.toNatClampNeg
  · subst hq
    simp [updV, va_up]
  · simp [updV, va_up, hq]
theorem x_dast (C : xC G E y cc nL ret hh n) {ak a N : Nat} {f : Nat → UInt64} {i : Int32} {x : UInt64} (d : decode cc pc = .ok (.dastore, 1)) (hak : xty[ak]? = some .double) (ha : h a = some (xad ak N f)) (hi : vp_in i N) (kk : xW G E nL mc ms (xset h a (xad ak N (va_up f i.toNatClampNeg x))) (pc + 1) L st) : xW G E nL mc ms h pc L (.double x :: .int i :: .ref a :: st) := fun H locs cells slots ls hR hF hc hs hl => by
  have hz : xz G ≤ a := (hR a _ ha).1
  have hcell : H[a]? = some (vp_cell (G.2.1 ak) _) := (hR a _ ha).2
  refine W.dast C.1 C.2.1 hcell ((C.I.2.1 ak _ hak).1 N (fun j => .double (f j))) (fun q => by cases q) (by show ¬ (i < 0 ∨ (arrV _ _ _).slots.size ≤ _); rw [arrV_size]; exact hi) rfl rfl d fun H1 e z oq => ?_
  refine kk H1 _ cells slots ls (hR.set hz ?_ oq) (hF.put hz z oq) hc hs hl
  show H1[a]? = some (vp_cell _ _)
  rw [e]
  rw [vp_cell_d, vp_cell_d, arrV_store]
  congr 2
  funext q
  by_cases hq : q = i.toNatClampNeg
  · subst hq
    simp [updV, va_up]
  · simp [updV, va_up, hq]
theorem x_aast (C : xC G E y cc nL ret hh n) {ak a N v ci : Nat} {Cn : String} {f : Nat → Option Nat} {i : Int32} {V : Nat → Value} {r : vw_C} (d : decode cc pc = .ok (.aastore, 1)) (hak : xty[ak]? = some (.object Cn)) (ha : h a = some (xaq ak N f)) (hi : vp_in i N) (hv : xH G h v (xob ci V)) (hcl : xcl[ci]? = some r) (hcast : r.1 = Cn ∨ Cond.castable r.1 Cn ∈ lw_tbl) (kk : xW G E nL mc ms (xset h a (xaq ak N (va_up f i.toNatClampNeg (some v)))) (pc + 1) L st) : xW G E nL mc ms h pc L (.ref v :: .int i :: .ref a :: st) := fun H locs cells slots ls hR hF hc hs hl => by
  have hlt : i.toNatClampNeg < N := Nat.not_le.mp fun q => hi (Or.inr q)
  have h0 : ¬ i < 0 := fun q => hi (Or.inl q)
  have hz : xz G ≤ a := (hR a _ ha).1
  have hcell : H[a]? = some (vp_cell (G.2.1 ak) _) := (hR a _ ha).2
  obtain ⟨r', hr', cellV, g1, g2, g3, -⟩ := hv.at C hR hF
  cases hcl.symm.trans hr'
  have hcls := (C.I.1 ci r hcl).1
  obtain ⟨kA, comp, k1, k2, k3, -⟩ := (C.I.2.1 ak _ hak).2
  obtain ⟨kC, hkC, -⟩ := hcls.2
  obtain ⟨kcomp, hkcomp⟩ : ∃ kc, (xEs E).vm.classes[comp]? = some kc := by obtain ⟨kc, h9, -⟩ := Vm.findClass_spec k3; exact ⟨kc, h9⟩
  have hasg : (xEs E).vm.assignable cellV.cls comp = true := by
    rcases hcast with e | hw
    · have hcomp : comp = G.1.1 ci := Option.some.inj (k3.symm.trans (by rw [← e]; exact hcls.1))
      rw [g2, hcomp]
      exact va_assign hcls
    · obtain ⟨c3, c4, hc3, hc4, hasg⟩ := Cond.castable_spec (C.w hw rfl)
      rw [g2, show G.1.1 ci = c3 from Option.some.inj (hcls.1.symm.trans hc3), show comp = c4 from Option.some.inj (k3.symm.trans hc4)]
      exact hasg
  refine W.aast C.1 C.2.1 hcell (fun q h => by cases h) (fun h => by cases h) k1 k2 rfl hkcomp ⟨h0, by show _ < (arrV _ _ _).slots.size; rw [arrV_size]; exact hlt⟩ g1 (fun q h => by rw [g3] at h; cases h) (by rw [g2]; exact hkC) hasg rfl rfl d fun H1 e z oq => ?_
  refine kk H1 _ cells slots ls (hR.set hz ?_ oq) (hF.put hz z oq) hc hs hl
  show H1[a]? = some (vp_cell _ _)
  rw [e]
  rw [vp_cell_q, vp_cell_q, arrV_store]
  congr 2
  funext q
  by_cases hq : q = i.toNatClampNeg
  · subst hq
    simp [updV, va_up, va_rf]
  · simp [updV, va_up, hq]
theorem x_aastN (C : xC G E y cc nL ret hh n) {ak a N : Nat} {Cn : String} {f : Nat → Option Nat} {i : Int32} (d : decode cc pc = .ok (.aastore, 1)) (hak : xty[ak]? = some (.object Cn)) (ha : h a = some (xaq ak N f)) (hi : vp_in i N) (kk : xW G E nL mc ms (xset h a (xaq ak N (va_up f i.toNatClampNeg none))) (pc + 1) L st) : xW G E nL mc ms h pc L (.null :: .int i :: .ref a :: st) := fun H locs cells slots ls hR hF hc hs hl => by
  have hz : xz G ≤ a := (hR a _ ha).1
  have hcell : H[a]? = some (vp_cell (G.2.1 ak) _) := (hR a _ ha).2
  refine va_WaastN (C := Cn) C.1 C.2.1 hcell ((C.I.2.1 ak _ hak).1 N (fun j => va_rf (f j))) (fun h => by cases h) (by show ¬ (i < 0 ∨ (arrV _ _ _).slots.size ≤ _); rw [arrV_size]; exact hi) rfl rfl d fun H1 e z oq => ?_
  refine kk H1 _ cells slots ls (hR.set hz ?_ oq) (hF.put hz z oq) hc hs hl
  show H1[a]? = some (vp_cell _ _)
  rw [e]
  rw [vp_cell_q, vp_cell_q, arrV_store]
  congr 2
  funext q
  by_cases hq : q = i.toNatClampNeg
  · subst hq
    simp [updV, va_up, va_rf]
  · simp [updV, va_up, hq]
theorem x_alen (C : xC G E y cc nL ret hh n) {ak a : Nat} {ty : FieldType} {x : vp_A} (d : decode cc pc = .ok (.arraylength, 1)) (hak : xty[ak]? = some ty) (ha : xH G h a (.inr (ak, x))) {v : Int32} (hv : Int32.ofNat x.1 = v) (kk : xW G E nL mc ms h (pc + 1) L (.int v :: st)) : xW G E nL mc ms h pc L (.ref a :: st) := fun H locs cells slots ls hR hF hc hs hl => by
  subst hv
  have hcell : H[a]? = some (vp_cell (G.2.1 ak) x) := ha.at C hR hF
  have K := kk H locs cells slots ls hR hF hc hs hl
  obtain ⟨N, f | f | f | f | f⟩ := x
  · exact W.alen (n := Int32.ofNat N) C.1 C.2.1 hcell ((C.I.2.1 ak _ hak).1 N (fun j => .int (f j))) (by rw [vp_cell_i, arrV_size] <;> rfl) rfl rfl d K
  · exact W.alen (n := Int32.ofNat N) C.1 C.2.1 hcell ((C.I.2.1 ak _ hak).1 N (fun j => .long (f j))) (by rw [vp_cell_l, arrV_size] <;> rfl) rfl rfl d K
  · exact W.alen (n := Int32.ofNat N) C.1 C.2.1 hcell ((C.I.2.1 ak _ hak).1 N (fun j => .float (f j))) (by rw [vp_cell_f, arrV_size] <;> rfl) rfl rfl d K
  · exact W.alen (n := Int32.ofNat N) C.1 C.2.1 hcell ((C.I.2.1 ak _ hak).1 N (fun j => .double (f j))) (by rw [vp_cell_d, arrV_size] <;> rfl) rfl rfl d K
  · exact W.alen (n := Int32.ofNat N) C.1 C.2.1 hcell ((C.I.2.1 ak _ hak).1 N (fun j => va_rf (f j))) (by rw [vp_cell_q, arrV_size] <;> rfl) rfl rfl d K
/-- checkcast, instanceof -/
theorem x_castN (C : xC G E y cc nL ret hh n) {index : Nat} (d : decode cc pc = .ok (.checkcast index, 3)) (kk : xW G E nL mc ms h (pc + 3) L (.null :: st)) : xW G E nL mc ms h pc L (.null :: st) := fun H locs cells slots ls hR hF hc hs hl => lv_castN C.1 C.2.1 d (kk H locs cells slots ls hR hF hc hs hl)
theorem x_instN (C : xC G E y cc nL ret hh n) {index : Nat} (d : decode cc pc = .ok (.instanceof index, 3)) (kk : xW G E nL mc ms h (pc + 3) L (.int 0 :: st)) : xW G E nL mc ms h pc L (.null :: st) := fun H locs cells slots ls hR hF hc hs hl => lv_instN C.1 C.2.1 d (kk H locs cells slots ls hR hF hc hs hl)
theorem x_cast (C : xC G E y cc nL ret hh n) {index a ci : Nat} {V : Nat → Value} {nm : String} {r : vw_C} (d : decode cc pc = .ok (.checkcast index, 3)) (q1 : Cond.classLink y.cls index nm ∈ lw_all) (ha : xH G h a (xob ci V)) (hcl : xcl[ci]? = some r) (hcast : r.1 = nm ∨ Cond.castable r.1 nm ∈ lw_tbl) (kk : xW G E nL mc ms h (pc + 3) L (.ref a :: st)) : xW G E nL mc ms h pc L (.ref a :: st) := fun H locs cells slots ls hR hF hc hs hl => by
  have hr := ha.recv C hR hF hcl
  have K := kk H locs cells slots ls hR hF hc hs hl
  rcases hcast with e | hw
  · subst e
    exact va_castS C.1 C.2.1 C.own (C.ts _ q1) (C.I.1 ci r hcl).1 hr d K
  · exact va_castY C.1 C.2.1 C.own (C.ts _ q1) (C.w hw rfl) hr d K
theorem x_inst (C : xC G E y cc nL ret hh n) {index a ci : Nat} {V : Nat → Value} {nm : String} {r : vw_C} (d : decode cc pc = .ok (.instanceof index, 3)) (q1 : Cond.classLink y.cls index nm ∈ lw_all) (ha : xH G h a (xob ci V)) (hcl : xcl[ci]? = some r) (hcast : r.1 = nm ∨ Cond.castable r.1 nm ∈ lw_tbl) (kk : xW G E nL mc ms h (pc + 3) L (.int 1 :: st)) : xW G E nL mc ms h pc L (.ref a :: st) := fun H locs cells slots ls hR hF hc hs hl => by
  have hr := ha.recv C hR hF hcl
  have K := kk H locs cells slots ls hR hF hc hs hl
  rcases hcast with e | hw
  · subst e
    exact va_instS C.1 C.2.1 C.own (C.ts _ q1) (C.I.1 ci r hcl).1 hr d K
  · exact va_instY C.1 C.2.1 C.own (C.ts _ q1) (C.w hw rfl) hr d K
theorem x_instNo (C : xC G E y cc nL ret hh n) {index a ci : Nat} {V : Nat → Value} {nm : String} {r : vw_C} (d : decode cc pc = .ok (.instanceof index, 3)) (q1 : Cond.classLink y.cls index nm ∈ lw_all) (ha : xH G h a (xob ci V)) (hcl : xcl[ci]? = some r) (hno : (r.1, nm) ∈ xnc) (kk : xW G E nL mc ms h (pc + 3) L (.int 0 :: st)) : xW G E nL mc ms h pc L (.ref a :: st) := fun H locs cells slots ls hR hF hc hs hl =>
  va_instNo C.1 C.2.1 C.own (C.ts _ q1) (C.I.2.2.2.2.2.2.1 _ hno) (ha.recv C hR hF hcl) d (kk H locs cells slots ls hR hF hc hs hl)
/-- Object's constructor -/
theorem x_obj (C : xC G E y cc nL ret hh n) {index a : Nat} (d : decode cc pc = .ok (.invokespecial index, 3)) (q1 : Cond.methodLink y.cls index objectInit ∈ lw_all) (q2 : Cond.instanceMethod objectInit ∈ lw_all) (q3 : Cond.code objectInit ⟨#[0xb1]⟩ 1 none ∈ lw_all) (hn : 1 ≤ n) (hst : (st.map fun v => v.category).sum ≤ 8) (kk : xW G E nL mc ms h (pc + 3) L st) : xW G E nL mc ms h pc L (.ref a :: st) := fun H locs cells slots ls hR hF hc hs hl =>
  W.objInit C.1 C.2.1 C.own (C.ts _ q1) (C.ts _ q2) (C.ts _ q3) rfl (by rw [C.2.2.2.2.1]; exact hl.1) rfl d (by have := C.2.2.2.2.2.2.2.2.2.2.1; show 1 ≤ (xER E).frames; omega) (by
    have := C.2.2.2.2.2.2.2.2.2.2.2.1
    have e : 2 * (F0 (xEm E) pc ls (.ref a :: st)).monitorRoom + (st.map fun v => v.category).sum ≤ 8 := lv_room hst
    show _ ≤ (xER E).locals
    omega) (kk H locs cells slots ls hR hF hc hs hl)
end XR
