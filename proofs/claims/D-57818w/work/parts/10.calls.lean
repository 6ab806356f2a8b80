/-! ===== a method's start, its ends, its calls ===== -/
/-- a walk of a contract: what it may use, and what its end owes -/
def xB (G : xG) (E : xE) (y : MethodName) (cc : ByteArray) (nL : Nat) (ret : Option FieldType) (hh : xH_) (n : Nat) (P : Option Value → xAH → Prop) (PX : String → Nat → xAH → Prop) : Prop :=
  xC G E y cc nL ret hh n ∧ E.2.2.2.2.2.2.2.2.2.2 = vx_MQ E.2.2.2.2.2.2.2.1 (xQc G P) (xXC G PX) E.2.2.2.2.2.2.1 (xEs E) (xER E).cells (xER E).slots (xf G)
theorem xcode_start {y : MethodName} {b : ByteArray} {nL : Nat} {ret : Option FieldType} {G : xG} {l : Launch} {hh : xH_} {n mc ms : Nat} {av : List Value} {h : xAH} {P : Option Value → xAH → Prop} {PX : String → Nat → xAH → Prop} (hy : plainName y.cls = true) (hlen : (lg_sl av).length ≤ nL) (hl : l.stackTraces = false)
    (body : ∀ E : xE, E.2.1 = l → xB G E y b nL ret hh n P PX → xW G E nL mc ms h 0 (lv_args 0 av) []) : xM G l y b nL ret hh n mc ms av h P PX := by
  have main : ∀ p e s m args below meth c s₁, BodyLoose p l y (headSpec (xws y b nL ret hh) (xrm n mc ms)) b nL ret e s m args below meth c s₁ → c.maxLocals = nL → c.exceptionTable.toList = tableOf hh → xPc G av h args s →
      W p l e (headSpec (xws y b nL ret hh) (xrm n mc ms)).room s m args below meth c s.heap [] 0 0 (vx_MQ below (xQc G P) (xXC G PX) args s mc ms (xf G)) (entryFrame m args nL) := by
    intro p e s m args below meth c s₁ B hml ht hv
    obtain ⟨rfl, hR, hI⟩ := hv
    have hts := atoms_spec (ws := xws y b nL ret hh) B.pre
    have hts : ∀ w ∈ lw_all, w.before _ s = true := fun w h => hts w (List.mem_cons_of_mem _ h)
    have hown : s.vm.findClass y.cls = some m.cls := findClass_of_methodNamed B.named
    have hin : meth.name = y.name := (name_of_methodNamed B.named B.method).1
    have hl0 := lv_entry av (n := nL) hlen
    rw [lg_entry_eq]
    generalize (lg_sl av ++ List.replicate (nL - (lg_sl av).length) Slot.unset).toArray = ls at hl0 ⊢
    exact body (p, l, e, xrm n mc ms, s, m, av.toArray, below, meth, c, vx_MQ below (xQc G P) (xXC G PX) av.toArray s mc ms (xf G)) rfl
      ⟨⟨B.exec, B.bytes, B.returns, B.notSynchronized, hml, hown, hin, ht, hts, hI, rfl, rfl, hl⟩, rfl⟩ s.heap [] 0 0 ls hR va_S.rf (by show 0 + mc ≤ mc; omega) (by show 0 + ms ≤ ms; omega) hl0
  cases hh with
  | nil =>
    refine vx_ofW (cc := b) (maxL := nL) (ret := ret) hy rfl ?_
    intro p e s m args below meth c s₁ B hml ht hv
    refine main p e s m args below meth c s₁ B hml ?_ hv
    rcases hq : c.exceptionTable.toList with _ | ⟨x, r⟩
    · rfl
    · exact (ht x (by rw [hq]; exact List.mem_cons_self)).elim
  | cons t hh =>
    refine vx_ofWH (cc := b) (maxL := nL) (ret := ret) (hh := t :: hh) hy rfl ?_
    intro p e s m args below meth c s₁ B hml hv
    refine main p e s m args below meth c s₁ B hml ?_ hv
    exact vx_table (x := y) B (atoms_spec (ws := xws y b nL ret (t :: hh)) B.pre _ List.mem_cons_self)
/-- the same for a method of a class that has entries of the machine's own for other methods -/
theorem xcode_startF {y : MethodName} {b : ByteArray} {nL : Nat} {ret : Option FieldType} {G : xG} {l : Launch} {n mc ms : Nat} {av : List Value} {h : xAH} {P : Option Value → xAH → Prop} {PX : String → Nat → xAH → Prop} (hy : plainFor y = true) (hlen : (lg_sl av).length ≤ nL) (hl : l.stackTraces = false)
    (body : ∀ E : xE, E.2.1 = l → xB G E y b nL ret [] n P PX → xW G E nL mc ms h 0 (lv_args 0 av) []) : xM G l y b nL ret [] n mc ms av h P PX := by
  refine MetFree.of_bodySF (code := b) (maxLocals := nL) (ret := ret) hy ?_ ?_
  · intro args s m h hn
    obtain ⟨meth, c, h1, h2, h3, h4, h5, h6, -, -⟩ := Cond.code_spec hn (atoms_spec (ws := xws y b nL ret []) h _ List.mem_cons_self)
    exact ⟨meth, c, h1, h2, h3, h4, h5, h6⟩
  · intro p e s m args below meth c s₁ B hml hP _
    have hh0 : s₁.heap = s.heap := by rw [B.state]; rfl
    have ht : c.exceptionTable.toList = tableOf [] := by
      obtain ⟨meth9, c9, h1, h2, -, -, -, -, h7, -⟩ := Cond.code_spec B.named (atoms_spec (ws := xws y b nL ret []) B.pre _ List.mem_cons_self)
      cases Option.some.inj (h1.symm.trans B.method)
      cases Option.some.inj (h2.symm.trans (Stand.of_body B).code)
      rw [Array.isEmpty_iff.mp h7]
      rfl
    obtain ⟨rfl, hR, hI⟩ := hP
    have hts := atoms_spec (ws := xws y b nL ret []) B.pre
    have hts : ∀ w ∈ lw_all, w.before _ s = true := fun w h => hts w (List.mem_cons_of_mem _ h)
    have hown : s.vm.findClass y.cls = some m.cls := findClass_of_methodNamed B.named
    have hin : meth.name = y.name := (name_of_methodNamed B.named B.method).1
    have K : W p l e (xrm n mc ms) s m av.toArray below meth c s.heap [] 0 0 (vx_MQ below (xQc G P) (xXC G PX) av.toArray s mc ms (xf G)) (entryFrame m av.toArray nL) := by
      have hl0 := lv_entry av (n := nL) hlen
      rw [lg_entry_eq]
      generalize (lg_sl av ++ List.replicate (nL - (lg_sl av).length) Slot.unset).toArray = ls at hl0 ⊢
      exact body (p, l, e, xrm n mc ms, s, m, av.toArray, below, meth, c, vx_MQ below (xQc G P) (xXC G PX) av.toArray s mc ms (xf G)) rfl
        ⟨⟨B.exec, B.bytes, B.returns, B.notSynchronized, hml, hown, hin, ht, hts, hI, rfl, rfl, hl⟩, rfl⟩ s.heap [] 0 0 ls hR va_S.rf (by show 0 + mc ≤ mc; omega) (by show 0 + ms ≤ ms; omega) hl0
    obtain ⟨t, a1, o, b1, b2, b3⟩ := K s₁ hh0 (Stand.of_body B)
    exact ⟨t, o, a1, b1, b2, b3⟩
/-- one contract serves for another: a stronger end, from the same start -/
theorem xM.mono {G : xG} {l : Launch} {y : MethodName} {b : ByteArray} {nL : Nat} {ret : Option FieldType} {hh : xH_} {n mc ms : Nat} {av : List Value} {h : xAH} {P P' : Option Value → xAH → Prop} {PX PX' : String → Nat → xAH → Prop} (hM : xM G l y b nL ret hh n mc ms av h P PX) (h1 : ∀ r h', P r h' → P' r h') (h2 : ∀ X q h', PX X q h' → PX' X q h') : xM G l y b nL ret hh n mc ms av h P' PX' := by
  intro p e ha hc hk s m args below hf happ hP hK
  obtain ⟨k, o, a1, a2, a3, a4⟩ := hM p e ha hc hk s m args below hf happ hP hK
  refine ⟨k, o, a1, a2, a3, ?_⟩
  rcases a4 with ⟨⟨r, h', q1, q2, q3⟩, q4⟩ | ⟨q, q1, E, ce, L, ⟨h', q2, q3⟩, q4⟩
  · exact Or.inl ⟨⟨r, h', q1, h1 _ _ q2, q3⟩, q4⟩
  · exact Or.inr ⟨q, q1, E, ce, L, ⟨h', h2 _ _ _ q2, q3⟩, q4⟩
section XE
variable {G : xG} {E : xE} {y : MethodName} {cc : ByteArray} {nL : Nat} {ret : Option FieldType} {hh : xH_} {n mc ms mc' ms' : Nat} {h : xAH} {pc : Nat} {L : List (Nat × Value)} {st : List Value} {P : Option Value → xAH → Prop} {PX : String → Nat → xAH → Prop}
theorem xend (B : xB G E y cc nL ret hh n P PX) {H : Heap} {locs : List Loc} {cells slots : Nat} {g : JFrame} (hc : cells + mc ≤ (xER E).cells) (hs : slots + ms ≤ (xER E).slots)
    (k : W E.1 E.2.1 E.2.2.1 E.2.2.2.1 E.2.2.2.2.1 E.2.2.2.2.2.1 E.2.2.2.2.2.2.1 E.2.2.2.2.2.2.2.1 E.2.2.2.2.2.2.2.2.1 E.2.2.2.2.2.2.2.2.2.1 H locs (xER E).cells (xER E).slots (MQ E.2.2.2.2.2.2.2.1 (xQc G P) E.2.2.2.2.2.2.1 (xEs E) (xER E).cells (xER E).slots (xf G)) g) : xW0 E H locs cells slots g := by
  unfold xW0
  rw [B.2]
  exact vx_ret (W.widen (Nat.le_trans (Nat.le_add_right _ _) hc) (Nat.le_trans (Nat.le_add_right _ _) hs) k)
theorem xqc (B : xB G E y cc nL ret hh n P PX) {H : Heap} {locs : List Loc} {r : Option Value} (hR : xRep G h H) (hF : xF G (xEs E) H locs) (hP : P r h) : ∀ t : State, t.heap = H → (xEs E).WarmedH t.vm → xQc G P E.2.2.2.2.2.2.1 (xEs E) (.returned r) t :=
  fun t ht hW => ⟨r, h, rfl, hP, by rw [ht]; exact hR, va_S.F hF ht⟩
theorem x_ret (B : xB G E y cc nL ret hh n P PX) (d : decode cc pc = .ok (.return_, 1)) (hr : ret = none) (hP : P none h) : xW G E nL mc ms h pc L [] := fun H locs cells slots ls hR hF hc hs hl =>
  xend B hc hs (W.vret B.1.1 B.1.2.1 (B.1.2.2.1.trans hr) (xqc B hR hF hP) hF.2.2 d B.1.2.2.2.1)
theorem x_iret (B : xB G E y cc nL ret hh n P PX) {v : Int32} (d : decode cc pc = .ok (.ireturn, 1)) (hr : ret = some .int) (hP : P (some (.int v)) h) : xW G E nL mc ms h pc L [.int v] := fun H locs cells slots ls hR hF hc hs hl =>
  xend B hc hs (W.iret B.1.1 B.1.2.1 (B.1.2.2.1.trans hr) (xqc B hR hF hP) hF.2.2 d B.1.2.2.2.1)
theorem x_zret (B : xB G E y cc nL ret hh n P PX) {v : Int32} {ty : FieldType} (d : decode cc pc = .ok (.ireturn, 1)) (hr : ret = some ty) (hn : narrow ty (.int v) = .int v) (hP : P (some (.int v)) h) : xW G E nL mc ms h pc L [.int v] := fun H locs cells slots ls hR hF hc hs hl =>
  xend B hc hs (W.zret B.1.1 B.1.2.1 (B.1.2.2.1.trans hr) hn (xqc B hR hF hP) hF.2.2 d B.1.2.2.2.1)
theorem x_lret (B : xB G E y cc nL ret hh n P PX) {v : Int64} (d : decode cc pc = .ok (.lreturn, 1)) (hr : ret = some .long) (hP : P (some (.long v)) h) : xW G E nL mc ms h pc L [.long v] := fun H locs cells slots ls hR hF hc hs hl =>
  xend B hc hs (W.lret B.1.1 B.1.2.1 (B.1.2.2.1.trans hr) (xqc B hR hF hP) hF.2.2 d B.1.2.2.2.1)
theorem x_fret (B : xB G E y cc nL ret hh n P PX) {v : UInt32} (d : decode cc pc = .ok (.freturn, 1)) (hr : ret = some .float) (hP : P (some (.float v)) h) : xW G E nL mc ms h pc L [.float v] := fun H locs cells slots ls hR hF hc hs hl =>
  xend B hc hs (W.fret B.1.1 B.1.2.1 (B.1.2.2.1.trans hr) (xqc B hR hF hP) hF.2.2 d B.1.2.2.2.1)
theorem x_dret (B : xB G E y cc nL ret hh n P PX) {v : UInt64} (d : decode cc pc = .ok (.dreturn, 1)) (hr : ret = some .double) (hP : P (some (.double v)) h) : xW G E nL mc ms h pc L [.double v] := fun H locs cells slots ls hR hF hc hs hl =>
  xend B hc hs (W.dret B.1.1 B.1.2.1 (B.1.2.2.1.trans hr) (xqc B hR hF hP) hF.2.2 d B.1.2.2.2.1)
theorem x_aret (B : xB G E y cc nL ret hh n P PX) {v : Value} {rt : FieldType} (d : decode cc pc = .ok (.areturn, 1)) (hr : ret = some rt) (hrt : (∃ nm, rt = .object nm) ∨ ∃ t, rt = .array t) (hv : v = .null ∨ ∃ a, v = .ref a) (hP : P (some v) h) : xW G E nL mc ms h pc L [v] := fun H locs cells slots ls hR hF hc hs hl =>
  xend B hc hs (W.aret B.1.1 B.1.2.1 (B.1.2.2.1.trans hr) hrt hv (xqc B hR hF hP) hF.2.2 d B.1.2.2.2.1)
/-! calls -/
theorem x_goes (C : xC G E y cc nL ret hh n) {H : Heap} {locs : List Loc} {cells slots mc2 ms2 : Nat} {ls : Array Slot} {a : Array Value} {st0 rest : List Value}
    (hr : vx_Run E.1 E.2.1 E.2.2.1 E.2.2.2.1 E.2.2.2.2.1 E.2.2.2.2.2.1 E.2.2.2.2.2.2.1 E.2.2.2.2.2.2.2.1 E.2.2.2.2.2.2.2.2.1 E.2.2.2.2.2.2.2.2.2.1 H locs cells slots mc2 ms2 (F0 (xEm E) pc ls st0) rest (xQc G P a) (xXC G PX) (xf G))
    (hF : xF G (xEs E) H locs) (hl : lv_has ls nL L) (hc : cells + mc2 + mc' ≤ (xER E).cells) (hs : slots + ms2 + ms' ≤ (xER E).slots)
    (kk : ∀ r h', P r h' → xW G E nL mc' ms' h' (pc + 3) L (r.toList ++ rest)) (kx : ∀ X q h', PX X q h' → xT G E nL mc' ms' h' pc L X q) : xW0 E H locs cells slots (F0 (xEm E) pc ls st0) := by
  intro T hT X
  rcases hr T hT X with ⟨v, st₀, t, T', L9, h0, X', hL, e1, e2, ⟨r, h', hv, hp, hR', hVF⟩, st⟩ | ⟨q, st₀, t, T', L9, Ex, ce, h0, X', hL, e1, e2, ⟨h', hp, hR', hVF⟩, hce, hcv, hcl, st⟩
  · cases hv
    obtain ⟨k1, k2, k3⟩ := vx_keep h0 e1 hF (fun q _ h => h) (fun q h => h) hL hVF
    obtain ⟨t2, a1, b1⟩ := kk v h' hp T'.heap (locs ++ L9) _ _ ls (by rw [e1]; exact hR') k3 hc hs hl T' rfl X'
    exact ⟨t2, st t2 a1, b1⟩
  · obtain ⟨k1, k2, k3⟩ := vx_keep h0 e1 hF (fun q _ h => h) (fun q h => h) hL hVF
    obtain ⟨t2, a1, b1⟩ := kx Ex q h' hp T'.heap (locs ++ L9) _ _ ls rest ce (by rw [e1]; exact hR') k3 hc hs hl (by rw [e1]; exact hce) hcv hcl T' rfl X'
    exact ⟨t2, st.trans a1, b1⟩
theorem x_goes5 (C : xC G E y cc nL ret hh n) {H : Heap} {locs : List Loc} {cells slots mc2 ms2 : Nat} {ls : Array Slot} {a : Array Value} {st0 rest : List Value}
    (hr : vx_Run5 E.1 E.2.1 E.2.2.1 E.2.2.2.1 E.2.2.2.2.1 E.2.2.2.2.2.1 E.2.2.2.2.2.2.1 E.2.2.2.2.2.2.2.1 E.2.2.2.2.2.2.2.2.1 E.2.2.2.2.2.2.2.2.2.1 H locs cells slots mc2 ms2 (F0 (xEm E) pc ls st0) rest (xQc G P a) (xXC G PX) (xf G))
    (hF : xF G (xEs E) H locs) (hl : lv_has ls nL L) (hc : cells + mc2 + mc' ≤ (xER E).cells) (hs : slots + ms2 + ms' ≤ (xER E).slots)
    (kk : ∀ r h', P r h' → xW G E nL mc' ms' h' (pc + 5) L (r.toList ++ rest)) (kx : ∀ X q h', PX X q h' → xT G E nL mc' ms' h' pc L X q) : xW0 E H locs cells slots (F0 (xEm E) pc ls st0) := by
  intro T hT X
  rcases hr T hT X with ⟨v, st₀, t, T', L9, h0, X', hL, e1, e2, ⟨r, h', hv, hp, hR', hVF⟩, st⟩ | ⟨q, st₀, t, T', L9, Ex, ce, h0, X', hL, e1, e2, ⟨h', hp, hR', hVF⟩, hce, hcv, hcl, st⟩
  · cases hv
    obtain ⟨k1, k2, k3⟩ := vx_keep h0 e1 hF (fun q _ h => h) (fun q h => h) hL hVF
    obtain ⟨t2, a1, b1⟩ := kk v h' hp T'.heap (locs ++ L9) _ _ ls (by rw [e1]; exact hR') k3 hc hs hl T' rfl X'
    exact ⟨t2, st t2 a1, b1⟩
  · obtain ⟨k1, k2, k3⟩ := vx_keep h0 e1 hF (fun q _ h => h) (fun q h => h) hL hVF
    obtain ⟨t2, a1, b1⟩ := kx Ex q h' hp T'.heap (locs ++ L9) _ _ ls rest ce (by rw [e1]; exact hR') k3 hc hs hl (by rw [e1]; exact hce) hcv hcl T' rfl X'
    exact ⟨t2, st.trans a1, b1⟩
/-- a method, as its callers know it: k parameters -/
def xMF (y : MethodName) (b : ByteArray) (nL : Nat) (ret : Option FieldType) (hh : xH_) (k : Nat) : Prop :=
  xcode y b nL ret hh ∈ lw_all ∧ Cond.initialized y.cls ∈ lw_all ∧ (y.cls ≠ "java/lang/invoke/MethodHandle" ∧ y.cls ≠ "java/lang/invoke/VarHandle") ∧ (parseMethodDescriptor y.desc).map (fun d => d.parameters.length) = some k ∧ nL ≤ 40
variable {y2 : MethodName} {b2 : ByteArray} {nL2 n2 k2 mc2 ms2 index : Nat} {ret2 : Option FieldType} {hh2 : xH_} {av : List Value} {h2 : xAH} {rest : List Value}
theorem xC.fix (C : xC G E y cc nL ret hh n) : CallFix E.1 (xEm E) E.2.2.2.2.2.2.2.2.2.1 cc nL (xEs E) E.2.2.2.2.2.2.1 lw_all y.cls := ⟨C.1, C.2.1, C.2.2.2.2.1, C.own, C.ts⟩
theorem xMF.good (mf : xMF y2 b2 nL2 ret2 hh2 k2) : GoodIn lw_all (xws y2 b2 nL2 ret2 hh2) := by
  intro w hw
  unfold xws at hw
  rcases List.mem_cons.mp hw with e | hw
  · subst e; exact lw_self _ mf.1
  · exact lw_self w hw
theorem xMF.k (mf : xMF y2 b2 nL2 ret2 hh2 k2) : ∀ sig, parseMethodDescriptor y2.desc = some sig → k2 = sig.parameters.length := fun sig h9 => by
  have h2 := mf.2.2.2.1
  rw [h9] at h2
  exact (Option.some.inj h2).symm
theorem xroom (C : xC G E y cc nL ret hh n) (mf : xMF y2 b2 nL2 ret2 hh2 k2) (hn : n2 + 1 ≤ n) : (xrm n2 mc2 ms2).frames + 1 ≤ (xER E).frames ∧ 8 + (nL2 + 11) + (xrm n2 mc2 ms2).locals ≤ (xER E).locals := by
  have e1 : (xER E).frames = n := C.2.2.2.2.2.2.2.2.2.2.1
  have e2 : (xER E).locals = 64 * n := C.2.2.2.2.2.2.2.2.2.2.2.1
  have e3 : nL2 ≤ 40 := mf.2.2.2.2
  refine ⟨by rw [e1]; exact hn, ?_⟩
  rw [e2]
  show 8 + (nL2 + 11) + 64 * n2 ≤ 64 * n
  omega
theorem xpc (C : xC G E y cc nL ret hh n) {H : Heap} {locs : List Loc} (hR : xRep G h H) (hF : xF G (xEs E) H locs) : ∀ U : State, U.heap = H → (xEs E).WarmedH U.vm → xPc G av h av.toArray U := fun U hU hW => ⟨rfl, by rw [hU]; exact hR, C.I.call hF hU hW⟩
theorem xcallB (C : xC G E y cc nL ret [] n) (mf : xMF y2 b2 nL2 ret2 [] k2) (hn : n2 + 1 ≤ n) (hl : Cond.methodLink y.cls index y2 ∈ lw_all) : CallB (xER E) (xEs E) E.2.2.2.2.2.2.1 y.cls index y2 b2 nL2 ret2 (xws y2 b2 nL2 ret2 []) (xrm n2 mc2 ms2) mc2 ms2 k2 :=
  ⟨rfl, rfl, (xroom C mf hn).1, (xroom C mf hn).2, pay_in C.ts mf.good, List.mem_cons_self, C.ts _ mf.1, C.ts _ mf.2.1, mf.2.2.1, mf.k, C.ts _ hl⟩
theorem xcallB' (C : xC G E y cc nL ret hh n) (mf : xMF y2 b2 nL2 ret2 [] k2) (hn : n2 + 1 ≤ n) (hl : Cond.methodLink y.cls index y2 ∈ lw_all) : CallB (xER E) (xEs E) E.2.2.2.2.2.2.1 y.cls index y2 b2 nL2 ret2 (xws y2 b2 nL2 ret2 []) (xrm n2 mc2 ms2) mc2 ms2 k2 :=
  ⟨rfl, rfl, (xroom C mf hn).1, (xroom C mf hn).2, pay_in C.ts mf.good, List.mem_cons_self, C.ts _ mf.1, C.ts _ mf.2.1, mf.2.2.1, mf.k, C.ts _ hl⟩
theorem xfit {cells slots : Nat} (hm : mc = mc2 + mc') (hm2 : ms = ms2 + ms') (hc : cells + mc ≤ (xER E).cells) (hs : slots + ms ≤ (xER E).slots) : (cells + mc2 ≤ (xER E).cells ∧ slots + ms2 ≤ (xER E).slots) ∧ cells + mc2 + mc' ≤ (xER E).cells ∧ slots + ms2 + ms' ≤ (xER E).slots := by
  subst hm; subst hm2
  refine ⟨⟨by omega, by omega⟩, by omega, by omega⟩
/-- invokestatic -/
theorem x_callS (C : xC G E y cc nL ret hh n) (d : decode cc pc = .ok (.invokestatic index, 3)) (hM : xM G E.2.1 y2 b2 nL2 ret2 hh2 n2 mc2 ms2 av h P PX) (mf : xMF y2 b2 nL2 ret2 hh2 k2) (q1 : Cond.methodLink y.cls index y2 ∈ lw_all) (q2 : Cond.static y2 ∈ lw_all)
    (hk : av.length = k2) (hst : st = av.reverse ++ rest) (hw : (rest.map fun v => v.category).sum ≤ 8) (hn : n2 + 1 ≤ n) (hm : mc = mc2 + mc') (hm2 : ms = ms2 + ms')
    (kk : ∀ r h', P r h' → xW G E nL mc' ms' h' (pc + 3) L (r.toList ++ rest)) (kx : ∀ X q h', PX X q h' → xT G E nL mc' ms' h' pc L X q) : xW G E nL mc ms h pc L st := fun H locs cells slots ls hR hF hc hs hl => by
  obtain ⟨f1, f2, f3⟩ := xfit (E := E) hm hm2 hc hs
  have hp : PreS (xEs E) H (xPc G av h) av := ⟨xPc_blind, xpc C hR hF⟩
  cases hh2 with
  | nil => exact x_goes C (vx_runS C.fix hM ⟨xcallB' C mf hn q1, C.ts _ q2⟩ hp rfl hk hl.1 hst (lv_room hw) d f1) hF hl f2 f3 kk kx
  | cons t hh2 =>
    exact x_goes C (vx_runSX C.fix hM ⟨⟨rfl, rfl, (xroom C mf hn).1, (xroom C mf hn).2, pay_in C.ts mf.good, List.mem_cons_self⟩, C.ts _ mf.1, C.ts _ mf.2.1, mf.2.2.1, mf.k, C.ts _ q1, C.ts _ q2⟩ hp rfl hk hl.1 hst (lv_room hw) d f1) hF hl f2 f3 kk kx
/-- invokevirtual: the receiver's class Cn runs y2 itself -/
theorem x_callV (C : xC G E y cc nL ret hh n) {b ci : Nat} {V : Nat → Value} {r0 : vw_C} {As : List Value} (d : decode cc pc = .ok (.invokevirtual index, 3)) (hM : xM G E.2.1 y2 b2 nL2 ret2 hh2 n2 mc2 ms2 (.ref b :: As) h P PX) (mf : xMF y2 b2 nL2 ret2 hh2 k2) (q1 : Cond.methodLink y.cls index y2 ∈ lw_all) (q2 : Cond.instanceMethod y2 ∈ lw_all) (q3 : Cond.selects r0.1 y2 y2 ∈ lw_all)
    (hb : xH G h b (xob ci V)) (hcl : xcl[ci]? = some r0) (hk : As.length = k2) (hst : st = As.reverse ++ .ref b :: rest) (hw : (rest.map fun v => v.category).sum ≤ 8) (hn : n2 + 1 ≤ n) (hm : mc = mc2 + mc') (hm2 : ms = ms2 + ms')
    (kk : ∀ r h', P r h' → xW G E nL mc' ms' h' (pc + 3) L (r.toList ++ rest)) (kx : ∀ X q h', PX X q h' → xT G E nL mc' ms' h' pc L X q) : xW G E nL mc ms h pc L st := fun H locs cells slots ls hR hF hc hs hl => by
  obtain ⟨f1, f2, f3⟩ := xfit (E := E) hm hm2 hc hs
  have hp : PreV (xEs E) H r0.1 b (xPc G (.ref b :: As) h) As := ⟨xPc_blind, hb.recv C hR hF hcl, xpc C hR hF⟩
  cases hh2 with
  | nil => exact x_goes C (vx_runV C.fix hM ⟨xcallB' C mf hn q1, C.ts _ q2, C.ts _ q3⟩ hp rfl hk hl.1 hst (lv_room hw) d f1) hF hl f2 f3 kk kx
  | cons t hh2 =>
    exact x_goes C (vx_runVX C.fix hM ⟨⟨rfl, rfl, (xroom C mf hn).1, (xroom C mf hn).2, pay_in C.ts mf.good, List.mem_cons_self⟩, C.ts _ mf.1, C.ts _ mf.2.1, mf.2.2.1, mf.k, C.ts _ q1, C.ts _ q2, C.ts _ q3⟩ hp rfl hk hl.1 hst (lv_room hw) d f1) hF hl f2 f3 kk kx
/-- invokevirtual of x, inherited: y2 runs -/
theorem x_callU (C : xC G E y cc nL ret hh n) {b ci : Nat} {V : Nat → Value} {r0 : vw_C} {As : List Value} {x : MethodName} {owner : String} (d : decode cc pc = .ok (.invokevirtual index, 3)) (hM : xM G E.2.1 y2 b2 nL2 ret2 [] n2 mc2 ms2 (.ref b :: As) h P PX) (mf : xMF y2 b2 nL2 ret2 [] k2) (q1 : Cond.methodLink y.cls index x ∈ lw_all) (q2 : Cond.sameMethod x.cls owner x.name x.desc ∈ lw_all) (q3 : Cond.declares ⟨owner, x.name, x.desc⟩ ∈ lw_tbl ∨ (y2 = ⟨owner, x.name, x.desc⟩)) (q4 : Cond.selects r0.1 x y2 ∈ lw_all) (q5 : Cond.instanceMethod y2 ∈ lw_all) (hx : owner ≠ "java/lang/invoke/MethodHandle" ∧ owner ≠ "java/lang/invoke/VarHandle") (hd : x.desc = y2.desc)
    (hb : xH G h b (xob ci V)) (hcl : xcl[ci]? = some r0) (hk : As.length = k2) (hst : st = As.reverse ++ .ref b :: rest) (hw : (rest.map fun v => v.category).sum ≤ 8) (hn : n2 + 1 ≤ n) (hm : mc = mc2 + mc') (hm2 : ms = ms2 + ms')
    (kk : ∀ r h', P r h' → xW G E nL mc' ms' h' (pc + 3) L (r.toList ++ rest)) (kx : ∀ X q h', PX X q h' → xT G E nL mc' ms' h' pc L X q) : xW G E nL mc ms h pc L st := fun H locs cells slots ls hR hF hc hs hl => by
  obtain ⟨f1, f2, f3⟩ := xfit (E := E) hm hm2 hc hs
  have hp : PreV (xEs E) H r0.1 b (xPc G (.ref b :: As) h) As := ⟨xPc_blind, hb.recv C hR hF hcl, xpc C hR hF⟩
  have hdec : va_Decl (xEs E) ⟨owner, x.name, x.desc⟩ := by
    rcases q3 with q3 | q3
    · exact va_Decl.abs (C.w q3 rfl)
    · rw [← q3]; exact va_Decl.of (C.ts _ q5) (C.ts _ mf.1)
  exact x_goes C (vx_runU C.fix hM ⟨⟨rfl, rfl, (xroom C mf hn).1, (xroom C mf hn).2, pay_in C.ts mf.good, List.mem_cons_self⟩, C.ts _ mf.1, C.ts _ mf.2.1, hx, by rw [hd]; exact mf.k, C.ts _ q1, C.ts _ q2, hdec, C.ts _ q4, C.ts _ q5⟩ hp rfl hk hl.1 hst (lv_room hw) d f1) hF hl f2 f3 kk kx
/-- invokespecial of a constructor -/
theorem x_callI (C : xC G E y cc nL ret hh n) {b : Nat} {As : List Value} (d : decode cc pc = .ok (.invokespecial index, 3)) (hM : xM G E.2.1 y2 b2 nL2 none [] n2 mc2 ms2 (.ref b :: As) h P PX) (mf : xMF y2 b2 nL2 none [] k2) (q1 : Cond.methodLink y.cls index y2 ∈ lw_all) (q2 : Cond.instanceMethod y2 ∈ lw_all) (hy1 : y2.name = "<init>")
    (hk : As.length = k2) (hst : st = As.reverse ++ .ref b :: rest) (hw : (rest.map fun v => v.category).sum ≤ 8) (hn : n2 + 1 ≤ n) (hm : mc = mc2 + mc') (hm2 : ms = ms2 + ms')
    (kk : ∀ r h', P r h' → xW G E nL mc' ms' h' (pc + 3) L (r.toList ++ rest)) (kx : ∀ X q h', PX X q h' → xT G E nL mc' ms' h' pc L X q) : xW G E nL mc ms h pc L st := fun H locs cells slots ls hR hF hc hs hl => by
  obtain ⟨f1, f2, f3⟩ := xfit (E := E) hm hm2 hc hs
  have hp : PreS (xEs E) H (xPc G (.ref b :: As) h) (.ref b :: As) := ⟨xPc_blind, xpc C hR hF⟩
  exact x_goes C (vx_runI C.fix hM ⟨xcallB' C mf hn q1, hy1, C.ts _ q2⟩ hp rfl hk hl.1 hst (lv_room hw) d f1) hF hl f2 f3 kk kx
theorem xcn (C : xC G E y cc nL ret hh n) {host : String} (mf : xMF y2 b2 nL2 ret2 [] k2) (hn : n2 + 1 ≤ n) (q1 : Cond.methodLinkNest y.cls index y2 host ∈ lw_tbl) : va_CN (xER E) (xEs E) E.2.2.2.2.2.2.1 y.cls index y2 host b2 nL2 ret2 (xws y2 b2 nL2 ret2 []) (xrm n2 mc2 ms2) mc2 ms2 k2 :=
  ⟨⟨rfl, rfl, (xroom C mf hn).1, (xroom C mf hn).2, pay_in C.ts mf.good, List.mem_cons_self⟩, C.ts _ mf.1, C.ts _ mf.2.1, mf.2.2.1, mf.k, C.wu q1 rfl _⟩
/-- the private constructor of a nest mate -/
theorem x_callIN (C : xC G E y cc nL ret hh n) {b : Nat} {As : List Value} {host : String} (d : decode cc pc = .ok (.invokespecial index, 3)) (hM : xM G E.2.1 y2 b2 nL2 none [] n2 mc2 ms2 (.ref b :: As) h P PX) (mf : xMF y2 b2 nL2 none [] k2) (q1 : Cond.methodLinkNest y.cls index y2 host ∈ lw_tbl) (q2 : Cond.instanceMethod y2 ∈ lw_all) (hy1 : y2.name = "<init>")
    (hk : As.length = k2) (hst : st = As.reverse ++ .ref b :: rest) (hw : (rest.map fun v => v.category).sum ≤ 8) (hn : n2 + 1 ≤ n) (hm : mc = mc2 + mc') (hm2 : ms = ms2 + ms')
    (kk : ∀ r h', P r h' → xW G E nL mc' ms' h' (pc + 3) L (r.toList ++ rest)) (kx : ∀ X q h', PX X q h' → xT G E nL mc' ms' h' pc L X q) : xW G E nL mc ms h pc L st := fun H locs cells slots ls hR hF hc hs hl => by
  obtain ⟨f1, f2, f3⟩ := xfit (E := E) hm hm2 hc hs
  have hp : PreS (xEs E) H (xPc G (.ref b :: As) h) (.ref b :: As) := ⟨xPc_blind, xpc C hR hF⟩
  exact x_goes C (vx_runIN C.fix hM ⟨xcn C mf hn q1, hy1, C.ts _ q2⟩ hp rfl hk hl.1 hst (lv_room hw) d f1) hF hl f2 f3 kk kx
/-- a private static method of a nest mate -/
theorem x_callSN (C : xC G E y cc nL ret hh n) {host : String} (d : decode cc pc = .ok (.invokestatic index, 3)) (hM : xM G E.2.1 y2 b2 nL2 ret2 [] n2 mc2 ms2 av h P PX) (mf : xMF y2 b2 nL2 ret2 [] k2) (q1 : Cond.methodLinkNest y.cls index y2 host ∈ lw_tbl) (q2 : Cond.static y2 ∈ lw_all)
    (hk : av.length = k2) (hst : st = av.reverse ++ rest) (hw : (rest.map fun v => v.category).sum ≤ 8) (hn : n2 + 1 ≤ n) (hm : mc = mc2 + mc') (hm2 : ms = ms2 + ms')
    (kk : ∀ r h', P r h' → xW G E nL mc' ms' h' (pc + 3) L (r.toList ++ rest)) (kx : ∀ X q h', PX X q h' → xT G E nL mc' ms' h' pc L X q) : xW G E nL mc ms h pc L st := fun H locs cells slots ls hR hF hc hs hl => by
  obtain ⟨f1, f2, f3⟩ := xfit (E := E) hm hm2 hc hs
  have hp : PreS (xEs E) H (xPc G av h) av := ⟨xPc_blind, xpc C hR hF⟩
  exact x_goes C (vx_runSN C.fix hM ⟨xcn C mf hn q1, C.ts _ q2, trivial⟩ hp rfl hk hl.1 hst (lv_room hw) d f1) hF hl f2 f3 kk kx
/-- a private method of a nest mate -/
theorem x_callVN (C : xC G E y cc nL ret hh n) {b ci : Nat} {V : Nat → Value} {r0 : vw_C} {As : List Value} {host : String} (d : decode cc pc = .ok (.invokevirtual index, 3)) (hM : xM G E.2.1 y2 b2 nL2 ret2 [] n2 mc2 ms2 (.ref b :: As) h P PX) (mf : xMF y2 b2 nL2 ret2 [] k2) (q1 : Cond.methodLinkNest y.cls index y2 host ∈ lw_tbl) (q2 : Cond.instanceMethod y2 ∈ lw_all) (q3 : Cond.selects r0.1 y2 y2 ∈ lw_all)
    (hb : xH G h b (xob ci V)) (hcl : xcl[ci]? = some r0) (hk : As.length = k2) (hst : st = As.reverse ++ .ref b :: rest) (hw : (rest.map fun v => v.category).sum ≤ 8) (hn : n2 + 1 ≤ n) (hm : mc = mc2 + mc') (hm2 : ms = ms2 + ms')
    (kk : ∀ r h', P r h' → xW G E nL mc' ms' h' (pc + 3) L (r.toList ++ rest)) (kx : ∀ X q h', PX X q h' → xT G E nL mc' ms' h' pc L X q) : xW G E nL mc ms h pc L st := fun H locs cells slots ls hR hF hc hs hl => by
  obtain ⟨f1, f2, f3⟩ := xfit (E := E) hm hm2 hc hs
  have hp : PreV (xEs E) H r0.1 b (xPc G (.ref b :: As) h) As := ⟨xPc_blind, hb.recv C hR hF hcl, xpc C hR hF⟩
  exact x_goes C (vx_runVN C.fix hM ⟨xcn C mf hn q1, C.ts _ q2, C.ts _ q3⟩ hp rfl hk hl.1 hst (lv_room hw) d f1) hF hl f2 f3 kk kx
/-- super.m(..) -/
theorem x_callSU (C : xC G E y cc nL ret hh n) {b ci : Nat} {V : Nat → Value} {r0 : vw_C} {As : List Value} (d : decode cc pc = .ok (.invokespecial index, 3)) (hM : xM G E.2.1 y2 b2 nL2 ret2 [] n2 mc2 ms2 (.ref b :: As) h P PX) (mf : xMF y2 b2 nL2 ret2 [] k2) (q1 : Cond.methodLink y.cls index y2 ∈ lw_all) (q2 : Cond.sameMethod y2.cls y2.cls y2.name y2.desc ∈ lw_all) (q3 : Cond.superclass y.cls y2.cls ∈ lw_all) (q4 : Cond.instanceMethod y2 ∈ lw_all) (hy1 : y2.name ≠ "<init>")
    (hb : xH G h b (xob ci V)) (hcl : xcl[ci]? = some r0) (hk : As.length = k2) (hst : st = As.reverse ++ .ref b :: rest) (hw : (rest.map fun v => v.category).sum ≤ 8) (hn : n2 + 1 ≤ n) (hm : mc = mc2 + mc') (hm2 : ms = ms2 + ms')
    (kk : ∀ r h', P r h' → xW G E nL mc' ms' h' (pc + 3) L (r.toList ++ rest)) (kx : ∀ X q h', PX X q h' → xT G E nL mc' ms' h' pc L X q) : xW G E nL mc ms h pc L st := fun H locs cells slots ls hR hF hc hs hl => by
  obtain ⟨f1, f2, f3⟩ := xfit (E := E) hm hm2 hc hs
  have hp : PreV (xEs E) H r0.1 b (xPc G (.ref b :: As) h) As := ⟨xPc_blind, hb.recv C hR hF hcl, xpc C hR hF⟩
  exact x_goes C (vx_runSU (C.I.1 ci r0 hcl).1 C.fix hM ⟨⟨rfl, rfl, (xroom C mf hn).1, (xroom C mf hn).2, pay_in C.ts mf.good, List.mem_cons_self⟩, C.ts _ q1, C.ts _ q2, C.ts _ q3, C.ts _ q4, C.ts _ mf.2.1, C.ts _ mf.1, hy1, mf.k⟩ hp rfl hk hl.1 hst (lv_room hw) d f1) hF hl f2 f3 kk kx
/-- invokeinterface x: the receiver's class runs y2 -/
theorem x_callF (C : xC G E y cc nL ret hh n) {b ci cnt : Nat} {V : Nat → Value} {r0 : vw_C} {As : List Value} {x : MethodName} (d : decode cc pc = .ok (.invokeinterface index cnt, 5)) (hM : xM G E.2.1 y2 b2 nL2 ret2 [] n2 mc2 ms2 (.ref b :: As) h P PX) (mf : xMF y2 b2 nL2 ret2 [] k2) (q1 : Cond.methodLink y.cls index x ∈ lw_all) (hx : x ∈ xfm) (q2 : Cond.selects r0.1 x y2 ∈ lw_all) (q3 : Cond.instanceMethod y2 ∈ lw_all) (q4 : Cond.publicMethod y2 ∈ lw_tbl) (q5 : Cond.unhidden r0.1 x.name x.desc ∈ lw_tbl) (q6 : Cond.castable r0.1 x.cls ∈ lw_tbl) (hd : (parseMethodDescriptor x.desc).map (fun d => d.parameters.length) = some k2)
    (hb : xH G h b (xob ci V)) (hcl : xcl[ci]? = some r0) (hk : As.length = k2) (hst : st = As.reverse ++ .ref b :: rest) (hw : (rest.map fun v => v.category).sum ≤ 8) (hn : n2 + 1 ≤ n) (hm : mc = mc2 + mc') (hm2 : ms = ms2 + ms')
    (kk : ∀ r h', P r h' → xW G E nL mc' ms' h' (pc + 5) L (r.toList ++ rest)) (kx : ∀ X q h', PX X q h' → xT G E nL mc' ms' h' pc L X q) : xW G E nL mc ms h pc L st := fun H locs cells slots ls hR hF hc hs hl => by
  obtain ⟨f1, f2, f3⟩ := xfit (E := E) hm hm2 hc hs
  have hp : PreV (xEs E) H r0.1 b (xPc G (.ref b :: As) h) As := ⟨xPc_blind, hb.recv C hR hF hcl, xpc C hR hF⟩
  obtain ⟨hxm, hx1, hx2⟩ := C.I.2.2.2.2.1 x hx
  refine x_goes5 C (vx_runF (C.I.1 ci r0 hcl).1 C.fix hM ⟨⟨rfl, rfl, (xroom C mf hn).1, (xroom C mf hn).2, pay_in C.ts mf.good, List.mem_cons_self⟩, C.ts _ q1, va_any rfl hx1, va_any rfl hx2, C.ts _ q2, C.ts _ q3, C.wu q4 rfl _, C.wu q5 rfl _, C.wu q6 rfl _, C.ts _ mf.2.1, C.ts _ mf.1, hxm, fun sig h9 => ?_⟩ hp rfl hk hl.1 hst (lv_room hw) d f1) hF hl f2 f3 kk kx
  rw [h9] at hd
  exact (Option.some.inj hd).symm
end XE
