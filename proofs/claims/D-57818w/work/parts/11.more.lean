/-! ===== default methods, exceptions, array copies ===== -/
section XD
variable {p : Program} {l : Launch} {e : Env} {R : Room} {s : State} {m : MethodId} {args : Array Value} {below : List Frame} {meth : Method} {c : Code}
/-- a default method, called by its interface (follows interfaceBackD of the library) -/
theorem vx_callIFD {T : State} {locs : List Loc} {cells slots : Nat} (X : Stand p l e R s m args below meth c T locs cells slots) (hexec : p.tables.exec = Jvm.exec) {own Cn : String} {index count : Nat} {xi y : MethodName}
    (hown : s.vm.findClass own = some m.cls) (hlink : (Cond.methodLink own index xi).before args s = true) (hdecl : (Cond.declares xi).before args s = true)
    (hface : (Cond.interfaceMethod xi.cls xi.cls xi.name xi.desc).before args s = true) (hsel : (Cond.landsInDefault Cn xi y).before args s = true) (hinst : (Cond.instanceMethod y).before args s = true)
    (hpub : (Cond.publicMethod y).before args s = true) (hcast : (Cond.castable Cn xi.cls).before args s = true)
    (hx : xi.cls ≠ "java/lang/invoke/MethodHandle" ∧ xi.cls ≠ "java/lang/invoke/VarHandle")
    {W9 : Nat} {Pre : Pt → Array Value → Prop} {Post : Pt → Array Value → Option Value → Pt → Prop} {PostX : Pt → Array Value → Addr → Pt → Prop} (hK : vx_Back l R p e below s args y 5 W9 Pre Post PostX)
    {b : Addr} {cB : ClassId} {kB : Class} (hcB : s.vm.findClass Cn = some cB) (hkB : s.vm.classes[cB]? = some kB) {cellB : Cell} (hcellT : T.heap[b]? = some cellB) (hstatB : cellB.vm.isStatics = false) (hclsB : cellB.cls = cB)
    {g : JFrame} (hg : g.method = m) (hsize : g.locals.size = c.maxLocals) {argsL rest : List Value}
    (hlen : ∀ sig, parseMethodDescriptor xi.desc = some sig → argsL.length = sig.parameters.length) (hstack : g.stack = argsL.reverse ++ .ref b :: rest) (hW : 2 * g.monitorRoom + (rest.map fun v => v.category).sum ≤ W9)
    (hdg : decode c.code g.pc = .ok (.invokeinterface index count, 5)) (hpre : ∀ vm₁, s.WarmedH vm₁ → Pre ⟨T.setVm vm₁, locs, cells, slots⟩ (Value.ref b :: argsL).toArray) :
    (∃ (v : Option Value) (vm₁ : Vm) (B : Pt), s.WarmedH vm₁ ∧ Stand p l e R s m args below meth c B.U B.locs B.cells B.slots ∧ Post ⟨T.setVm vm₁, locs, cells, slots⟩ (Value.ref b :: argsL).toArray v B ∧
      ∀ target, Steps p.tables e below (B.U.setTop { g with pc := g.pc + 5, stack := v.toList ++ rest }) target → Steps p.tables e below (T.setTop g) target) ∨
    (∃ (q : Addr) (vm₁ : Vm) (B : Pt), s.WarmedH vm₁ ∧ Stand p l e R s m args below meth c B.U B.locs B.cells B.slots ∧ PostX ⟨T.setVm vm₁, locs, cells, slots⟩ (Value.ref b :: argsL).toArray q B ∧
      Steps p.tables e below (T.setTop g) ((B.U.setTop { g with stack := rest }).pushFrame (.throwing q))) := by
  obtain ⟨r0, r, hn, hrm, hstR, hsigR⟩ := Cond.declares_spec hdecl
  obtain ⟨cL, kL, r1, hcL, hkL, hiL, hfoundL, hn1⟩ := Cond.interfaceMethod_spec hface
  cases hn.symm.trans hn1
  have hr0cls : r0.cls = cL := Option.some.inj ((findClass_of_methodNamed hn).symm.trans hcL)
  obtain ⟨mk, methM, hnamed, hmethM, -, habM⟩ := Cond.instanceMethod_spec hinst
  obtain ⟨c2, r2, m2, rm, q1, q2, q3, q5, q4, -, q6, -⟩ := Cond.landsInDefault_spec hsel
  cases hcB.symm.trans q1
  cases hfoundL.symm.trans q2
  cases hnamed.symm.trans q3
  cases hrm.symm.trans q5
  have hselP : selectMethod e.platform s.vm cellB.cls r0 = .method mk := by rw [Launch.admits_selectMethod X.admits, hclsB]; exact q4
  have hpubM : hasFlag methM.accessFlags Acc.public_ = true := Cond.publicMethod_spec hnamed hmethM hpub
  have hway : ((cellB.cls :: s.vm.superclasses cellB.cls).any fun k => (declaredIn s.vm r.name r.desc k).any fun (_, z) => z.isPrivate || z.isStatic) = false := by
    rw [hclsB]; exact q6
  obtain ⟨c3, t3, w1, w2, w3⟩ := Cond.castable_spec hcast
  cases hcB.symm.trans w1
  cases hcL.symm.trans w2
  obtain ⟨vm₁, X₁, hstep₁⟩ := X.invokeinterface hexec hown hlink hn hrm hstR (by rw [hr0cls]; exact hkL) hiL hx (a := b) (cell := cellB) (kcell := kB) hcellT
    (fun z h => by rw [h] at hstatB; cases hstatB) (by rw [hclsB]; exact hkB) (by rw [hclsB, hr0cls]; exact w3) hselP hmethM hway hpubM habM (g := g) hg (argsL := argsL) (rest := rest) (hlen _ hsigR) hstack hdg
  rcases hK m meth c ⟨T.setVm vm₁, locs, cells, slots⟩ { g with stack := rest } (.invokeinterface index count) mk (Value.ref b :: argsL).toArray X₁ hg hsize hdg hW (X₁.named hnamed) (hpre vm₁ X₁.warmed) with ⟨v, B, X', hpost, hsteps⟩ | ⟨q, B, X', hpost, hsteps⟩
  · exact Or.inl ⟨v, vm₁, B, X₁.warmed, X', hpost, fun target h => hstep₁ _ fun acts => by rw [doInvoke_state]; exact hsteps.trans h⟩
  · exact Or.inr ⟨q, vm₁, B, X₁.warmed, X', hpost, hstep₁ _ fun acts => by rw [doInvoke_state]; exact hsteps⟩
/-- a default method, called by its name in a class (follows virtualBackUpD of the library) -/
theorem vx_callVUD {T : State} {locs : List Loc} {cells slots : Nat} (X : Stand p l e R s m args below meth c T locs cells slots) (hexec : p.tables.exec = Jvm.exec) {own Cn owner : String} {index : Nat} {x y : MethodName}
    (hown : s.vm.findClass own = some m.cls) (hlink : (Cond.methodLink own index x).before args s = true) (hsame : (Cond.sameMethod x.cls owner x.name x.desc).before args s = true)
    (hdecl : (Cond.declares ⟨owner, x.name, x.desc⟩).before args s = true) (howner : owner ≠ "java/lang/invoke/MethodHandle" ∧ owner ≠ "java/lang/invoke/VarHandle")
    (hsel : (Cond.landsInDefault Cn x y).before args s = true) (hinst : (Cond.instanceMethod y).before args s = true)
    {W9 : Nat} {Pre : Pt → Array Value → Prop} {Post : Pt → Array Value → Option Value → Pt → Prop} {PostX : Pt → Array Value → Addr → Pt → Prop} (hK : vx_Back l R p e below s args y 3 W9 Pre Post PostX)
    {b : Addr} {cB : ClassId} (hcB : s.vm.findClass Cn = some cB) {cellB : Cell} (hcellT : T.heap[b]? = some cellB) (hstatB : cellB.vm.isStatics = false) (hclsB : cellB.cls = cB)
    {g : JFrame} (hg : g.method = m) (hsize : g.locals.size = c.maxLocals) {argsL rest : List Value}
    (hlen : ∀ sig, parseMethodDescriptor x.desc = some sig → argsL.length = sig.parameters.length) (hstack : g.stack = argsL.reverse ++ .ref b :: rest) (hW : 2 * g.monitorRoom + (rest.map fun v => v.category).sum ≤ W9)
    (hdg : decode c.code g.pc = .ok (.invokevirtual index, 3)) (hpre : ∀ vm₁, s.WarmedH vm₁ → Pre ⟨T.setVm vm₁, locs, cells, slots⟩ (Value.ref b :: argsL).toArray) :
    (∃ (v : Option Value) (vm₁ : Vm) (B : Pt), s.WarmedH vm₁ ∧ Stand p l e R s m args below meth c B.U B.locs B.cells B.slots ∧ Post ⟨T.setVm vm₁, locs, cells, slots⟩ (Value.ref b :: argsL).toArray v B ∧
      ∀ target, Steps p.tables e below (B.U.setTop { g with pc := g.pc + 3, stack := v.toList ++ rest }) target → Steps p.tables e below (T.setTop g) target) ∨
    (∃ (q : Addr) (vm₁ : Vm) (B : Pt), s.WarmedH vm₁ ∧ Stand p l e R s m args below meth c B.U B.locs B.cells B.slots ∧ PostX ⟨T.setVm vm₁, locs, cells, slots⟩ (Value.ref b :: argsL).toArray q B ∧
      Steps p.tables e below (T.setTop g) ((B.U.setTop { g with stack := rest }).pushFrame (.throwing q))) := by
  obtain ⟨r0, r, hn, hrm, hstR, hsigR⟩ := Cond.declares_spec hdecl
  obtain ⟨cn, ck, r1, hcn, hck, hni, hf, hn1⟩ := Cond.sameMethod_found hsame
  cases hn.symm.trans hn1
  obtain ⟨mk, methM, hnamed, hmethM, -, habM⟩ := Cond.instanceMethod_spec hinst
  obtain ⟨c2, r2, m2, rm, q1, q2, q3, q5, q4, ⟨kP, hkP, hkPi⟩, -, q7⟩ := Cond.landsInDefault_spec hsel
  cases hcB.symm.trans q1
  cases hf.symm.trans q2
  cases hnamed.symm.trans q3
  cases hrm.symm.trans q5
  have hselP : selectMethod e.platform s.vm cellB.cls r0 = .method mk := by rw [Launch.admits_selectMethod X.admits, hclsB]; exact q4
  obtain ⟨vm₁, X₁, hstep₁⟩ := X.invokevirtualUpD hexec hown hlink hsame howner hn hrm hstR (a := b) (cell := cellB) hcellT
    (fun z h => by rw [h] at hstatB; cases hstatB) hselP hmethM habM hkP hkPi (by rw [hclsB]; exact q7) (g := g) hg (argsL := argsL) (rest := rest) (hlen _ hsigR) hstack hdg
  rcases hK m meth c ⟨T.setVm vm₁, locs, cells, slots⟩ { g with stack := rest } (.invokevirtual index) mk (Value.ref b :: argsL).toArray X₁ hg hsize hdg hW (X₁.named hnamed) (hpre vm₁ X₁.warmed) with ⟨v, B, X', hpost, hsteps⟩ | ⟨q, B, X', hpost, hsteps⟩
  · exact Or.inl ⟨v, vm₁, B, X₁.warmed, X', hpost, fun target h => hstep₁ _ fun acts => by rw [doInvoke_state]; exact hsteps.trans h⟩
  · exact Or.inr ⟨q, vm₁, B, X₁.warmed, X', hpost, hstep₁ _ fun acts => by rw [doInvoke_state]; exact hsteps⟩
end XD
section XE2
variable {G : xG} {E : xE} {y : MethodName} {cc : ByteArray} {nL : Nat} {ret : Option FieldType} {hh : xH_} {n mc ms mc' ms' : Nat} {h : xAH} {pc : Nat} {L : List (Nat × Value)} {st : List Value} {P : Option Value → xAH → Prop} {PX : String → Nat → xAH → Prop}
variable {y2 : MethodName} {b2 : ByteArray} {nL2 n2 k2 mc2 ms2 index : Nat} {ret2 : Option FieldType} {av : List Value} {rest : List Value}
theorem xbackM (C : xC G E y cc nL ret hh n) (mf : xMF y2 b2 nL2 ret2 [] k2) (hn : n2 + 1 ≤ n) (hM : xM G E.2.1 y2 b2 nL2 ret2 [] n2 mc2 ms2 av h P PX) (len : Nat) : vx_Back E.2.1 (xER E) E.1 E.2.2.1 E.2.2.2.2.2.2.2.1 (xEs E) E.2.2.2.2.2.2.1 y2 len 8 (PreOf (xER E) mc2 ms2 (xPc G av h)) (PostOf (xQc G P) mc2 ms2 (xf G)) (vx_Post (xXC G PX) mc2 ms2 (xf G)) :=
  vx_back (bytes := b2) (maxL := nL2) (ret := ret2) hM xPc_blind rfl rfl (xroom C mf hn).1 (xroom C mf hn).2 (pay_in C.ts mf.good) List.mem_cons_self (fun a' U hW => word_at hW (Or.inl (by first | rfl | simp [Cond.onTables, Cond.keeps, Cond.steady])) (C.ts _ mf.2.1))
/-- invokeinterface of a default method -/
theorem x_callFD (C : xC G E y cc nL ret hh n) {b ci cnt : Nat} {V : Nat → Value} {r0 : vw_C} {As : List Value} {x : MethodName} (d : decode cc pc = .ok (.invokeinterface index cnt, 5)) (hM : xM G E.2.1 y2 b2 nL2 ret2 [] n2 mc2 ms2 (.ref b :: As) h P PX) (mf : xMF y2 b2 nL2 ret2 [] k2) (q1 : Cond.methodLink y.cls index x ∈ lw_all) (hx : x ∈ xfm) (hdf : (r0.1, x, y2) ∈ xdf) (q3 : Cond.instanceMethod y2 ∈ lw_all) (q4 : Cond.publicMethod y2 ∈ lw_tbl) (q6 : Cond.castable r0.1 x.cls ∈ lw_tbl) (hd : (parseMethodDescriptor x.desc).map (fun d => d.parameters.length) = some k2)
    (hb : xH G h b (xob ci V)) (hcl : xcl[ci]? = some r0) (hk : As.length = k2) (hst : st = As.reverse ++ .ref b :: rest) (hw : (rest.map fun v => v.category).sum ≤ 8) (hn : n2 + 1 ≤ n) (hm : mc = mc2 + mc') (hm2 : ms = ms2 + ms')
    (kk : ∀ r h', P r h' → xW G E nL mc' ms' h' (pc + 5) L (r.toList ++ rest)) (kx : ∀ X q h', PX X q h' → xT G E nL mc' ms' h' pc L X q) : xW G E nL mc ms h pc L st := fun H locs cells slots ls hR hF hc hs hl => by
  obtain ⟨f1, f2, f3⟩ := xfit (E := E) hm hm2 hc hs
  have hK := xbackM C mf hn hM 5
  obtain ⟨hxm, hx1, hx2⟩ := C.I.2.2.2.2.1 x hx
  have hdw := C.I.2.2.2.2.2.1 _ hdf
  obtain ⟨cell, g1, g2, g3⟩ := hb.recv C hR hF hcl
  obtain ⟨hfc, kB, hkB, -⟩ := (C.I.1 ci r0 hcl).1
  have hcls : cell.cls = G.1.1 ci := Option.some.inj (g3.symm.trans hfc)
  have hlen : ∀ sig, parseMethodDescriptor x.desc = some sig → As.length = sig.parameters.length := fun sig h9 => by
    rw [h9] at hd
    exact hk.trans (Option.some.inj hd).symm
  have hr : vx_Run5 E.1 E.2.1 E.2.2.1 E.2.2.2.1 E.2.2.2.2.1 E.2.2.2.2.2.1 E.2.2.2.2.2.2.1 E.2.2.2.2.2.2.2.1 E.2.2.2.2.2.2.2.2.1 E.2.2.2.2.2.2.2.2.2.1 H locs cells slots mc2 ms2 (F0 (xEm E) pc ls st) rest (xQc G P (Value.ref b :: As).toArray) (xXC G PX) (xf G) := by
    intro T hT X
    rcases vx_callIFD X C.1 (own := y.cls) (Cn := r0.1) (index := index) (count := cnt) (xi := x) (y := y2) C.own (C.ts _ q1) (va_any rfl hx1) (va_any rfl hx2) hdw (C.ts _ q3) (C.wu q4 rfl _) (C.wu q6 rfl _) hxm hK hfc hkB (by rw [hT]; exact g1) g2 hcls rfl (by rw [C.2.2.2.2.1]; exact hl.1) (argsL := As) (rest := rest) hlen hst (lv_room hw) (by rw [C.2.1]; exact d)
      (fun vm₁ hW₁ => ⟨f1.1, f1.2, xpc C hR hF (T.setVm vm₁) hT hW₁⟩) with ⟨v, vm₁, ⟨U', l2, c2, s2⟩, hW₁, X', ⟨g', mk, t, L9, e1, e2, hq, h1, hL, h2, h3⟩, st9⟩ | ⟨q, vm₁, ⟨U', l2, c2, s2⟩, hW₁, X', ⟨g', mk, t, L9, Ex, ce, e1, e2, hq, hce, hcv, hcl9, h1, hL, h2, h3⟩, st9⟩
    · dsimp only [Pt.U, Pt.locs, Pt.cells, Pt.slots] at X' e1 e2 h1 h2 h3 st9
      subst h1; subst h2; subst h3
      exact Or.inl ⟨v, (T.setVm vm₁).calling g' mk (Value.ref b :: As).toArray, t, U', L9, hT, X', hL, e1, e2, hq, st9⟩
    · dsimp only [Pt.U, Pt.locs, Pt.cells, Pt.slots] at X' e1 e2 h1 h2 h3 st9 hcl9
      subst h1; subst h2; subst h3
      exact Or.inr ⟨q, (T.setVm vm₁).calling g' mk (Value.ref b :: As).toArray, t, U', L9, Ex, ce, hT, X', hL, e1, e2, hq, hce, hcv, vx_cls hW₁ hcl9, st9⟩
  exact x_goes5 C hr hF hl f2 f3 kk kx
/-- invokevirtual of a default method -/
theorem x_callVD (C : xC G E y cc nL ret hh n) {b ci : Nat} {V : Nat → Value} {r0 : vw_C} {As : List Value} {x : MethodName} {owner : String} (d : decode cc pc = .ok (.invokevirtual index, 3)) (hM : xM G E.2.1 y2 b2 nL2 ret2 [] n2 mc2 ms2 (.ref b :: As) h P PX) (mf : xMF y2 b2 nL2 ret2 [] k2) (q1 : Cond.methodLink y.cls index x ∈ xnw) (q2 : Cond.sameMethod x.cls owner x.name x.desc ∈ xnw) (q3 : Cond.declares ⟨owner, x.name, x.desc⟩ ∈ lw_tbl) (hdf : (r0.1, x, y2) ∈ xdf) (q4 : Cond.instanceMethod y2 ∈ lw_all) (hx : owner ≠ "java/lang/invoke/MethodHandle" ∧ owner ≠ "java/lang/invoke/VarHandle") (hd : (parseMethodDescriptor x.desc).map (fun d => d.parameters.length) = some k2)
    (hb : xH G h b (xob ci V)) (hcl : xcl[ci]? = some r0) (hk : As.length = k2) (hst : st = As.reverse ++ .ref b :: rest) (hw : (rest.map fun v => v.category).sum ≤ 8) (hn : n2 + 1 ≤ n) (hm : mc = mc2 + mc') (hm2 : ms = ms2 + ms')
    (kk : ∀ r h', P r h' → xW G E nL mc' ms' h' (pc + 3) L (r.toList ++ rest)) (kx : ∀ X q h', PX X q h' → xT G E nL mc' ms' h' pc L X q) : xW G E nL mc ms h pc L st := fun H locs cells slots ls hR hF hc hs hl => by
  obtain ⟨f1, f2, f3⟩ := xfit (E := E) hm hm2 hc hs
  have hK := xbackM C mf hn hM 3
  have hdw := C.I.2.2.2.2.2.1 _ hdf
  have w1 : (Cond.methodLink y.cls index x).before E.2.2.2.2.2.2.1 (xEs E) = true := va_any rfl (C.I.2.2.2.2.2.2.2.1 _ q1)
  have w2 : (Cond.sameMethod x.cls owner x.name x.desc).before E.2.2.2.2.2.2.1 (xEs E) = true := va_any rfl (C.I.2.2.2.2.2.2.2.1 _ q2)
  obtain ⟨cell, g1, g2, g3⟩ := hb.recv C hR hF hcl
  obtain ⟨hfc, kB, hkB, -⟩ := (C.I.1 ci r0 hcl).1
  have hcls : cell.cls = G.1.1 ci := Option.some.inj (g3.symm.trans hfc)
  have hlen : ∀ sig, parseMethodDescriptor x.desc = some sig → As.length = sig.parameters.length := fun sig h9 => by
    rw [h9] at hd
    exact hk.trans (Option.some.inj hd).symm
  have hr : vx_Run E.1 E.2.1 E.2.2.1 E.2.2.2.1 E.2.2.2.2.1 E.2.2.2.2.2.1 E.2.2.2.2.2.2.1 E.2.2.2.2.2.2.2.1 E.2.2.2.2.2.2.2.2.1 E.2.2.2.2.2.2.2.2.2.1 H locs cells slots mc2 ms2 (F0 (xEm E) pc ls st) rest (xQc G P (Value.ref b :: As).toArray) (xXC G PX) (xf G) := by
    intro T hT X
    rcases vx_callVUD X C.1 (own := y.cls) (Cn := r0.1) (owner := owner) (index := index) (x := x) (y := y2) C.own w1 w2 (C.wu q3 rfl _) hx hdw (C.ts _ q4) hK hfc (by rw [hT]; exact g1) g2 hcls rfl (by rw [C.2.2.2.2.1]; exact hl.1) (argsL := As) (rest := rest) hlen hst (lv_room hw) (by rw [C.2.1]; exact d)
      (fun vm₁ hW₁ => ⟨f1.1, f1.2, xpc C hR hF (T.setVm vm₁) hT hW₁⟩) with ⟨v, vm₁, ⟨U', l2, c2, s2⟩, hW₁, X', ⟨g', mk, t, L9, e1, e2, hq, h1, hL, h2, h3⟩, st9⟩ | ⟨q, vm₁, ⟨U', l2, c2, s2⟩, hW₁, X', ⟨g', mk, t, L9, Ex, ce, e1, e2, hq, hce, hcv, hcl9, h1, hL, h2, h3⟩, st9⟩
    · dsimp only [Pt.U, Pt.locs, Pt.cells, Pt.slots] at X' e1 e2 h1 h2 h3 st9
      subst h1; subst h2; subst h3
      exact Or.inl ⟨v, (T.setVm vm₁).calling g' mk (Value.ref b :: As).toArray, t, U', L9, hT, X', hL, e1, e2, hq, st9⟩
    · dsimp only [Pt.U, Pt.locs, Pt.cells, Pt.slots] at X' e1 e2 h1 h2 h3 st9 hcl9
      subst h1; subst h2; subst h3
      exact Or.inr ⟨q, (T.setVm vm₁).calling g' mk (Value.ref b :: As).toArray, t, U', L9, Ex, ce, hT, X', hL, e1, e2, hq, hce, hcv, vx_cls hW₁ hcl9, st9⟩
  exact x_goes C hr hF hl f2 f3 kk kx
/-! exceptions -/
theorem x_athrow (C : xC G E y cc nL ret hh n) {q ci : Nat} {V : Nat → Value} {r0 : vw_C} (d : decode cc pc = .ok (.athrow, 1)) (hq : xH G h q (xob ci V)) (hcl : xcl[ci]? = some r0) (k : xT G E nL mc ms h pc L r0.1 q) : xW G E nL mc ms h pc L (.ref q :: st) := fun H locs cells slots ls hR hF hc hs hl => by
  obtain ⟨r', h1, cell, h2, h3, h4, -⟩ := hq.at C hR hF
  cases hcl.symm.trans h1
  exact vx_athrow C.1 C.2.1 d (k H locs cells slots ls st cell hR hF hc hs hl h2 h4 (by rw [h3]; exact (C.I.1 ci _ hcl).1.1))
/-- not caught here -/
theorem x_out (B : xB G E y cc nL ret hh n P PX) {X : String} {q : Nat} (hout : ∀ t ∈ tableOf hh, covers t pc = false) (hP : PX X q h) : xT G E nL mc ms h pc L X q := fun H locs cells slots ls st ce hR hF hc hs hl h1 h2 h3 => by
  unfold xT0
  rw [B.2]
  exact vx_out (by rw [B.1.2.2.2.2.2.2.2.1]; exact hout) B.1.2.2.2.1 h1 h2 h3 (fun t ht hA => ⟨h, hP, by rw [ht]; exact hR, va_S.F hF ht⟩) hF.2.2 (Nat.le_trans (Nat.le_add_right _ _) hc) (Nat.le_trans (Nat.le_add_right _ _) hs)
/-- caught by the row x of the table; the rows ahead of it don't take it -/
theorem x_catch (C : xC G E y cc nL ret hh n) {X nm : String} {q : Nat} (pre : List ExceptionTableEntry) (x : ExceptionTableEntry) (suf : List ExceptionTableEntry) (hsplit : tableOf hh = pre ++ x :: suf) (hpass : ∀ z ∈ pre, covers z pc = false ∨ (z.catchType ≠ 0 ∧ ∃ nm2 : String, Cond.classLink y.cls z.catchType nm2 ∈ lw_all ∧ (X, nm2) ∈ xnc)) (hx : covers x pc = true) (h0 : x.catchType ≠ 0) (q1 : Cond.classLink y.cls x.catchType nm ∈ lw_all)
    (hcast : (X = nm ∧ ∃ (ci : Nat) (r : vw_C), xcl[ci]? = some r ∧ r.1 = X) ∨ Cond.castable X nm ∈ lw_tbl) (k : xW G E nL mc ms h x.handlerPc L [.ref q]) : xT G E nL mc ms h pc L X q := fun H locs cells slots ls st ce hR hF hc hs hl h1 h2 h3 => by
  have hca : (Cond.castable X nm).before E.2.2.2.2.2.2.1 (xEs E) = true := by
    rcases hcast with ⟨e, ci, r, hcl, hr⟩ | hw
    · subst e
      have hK := (C.I.1 ci r hcl).1
      rw [hr] at hK
      have ha := va_assign hK
      simp [Cond.before, Cond.holds, Cond.value, hK.1, ha]
    · exact C.wu hw rfl _
  exact vx_catch C.own pre x suf (by rw [C.2.2.2.2.2.2.2.1]; exact hsplit) (fun z hz => by
    rcases hpass z hz with h | ⟨hz0, nm2, hq, hn⟩
    · exact Or.inl h
    · exact Or.inr ⟨hz0, nm2, C.ts _ hq, C.I.2.2.2.2.2.2.1 _ hn⟩) hx h0 (C.ts _ q1) hca h1 h2 h3 (k H locs cells slots ls hR hF hc hs hl)
/-- new E(); dup; its constructor: an exception of the JDK's without a text, left on the stack -/
theorem x_make0 (C : xC G E y cc nL ret hh n) {cls : String} {names : List String} {ik ic ci : Nat} (hcls : Bundle.fit cls = true) (hnames : ∀ n ∈ names, Bundle.fit n = true)
    (hk : Cond.classLink y.cls ik cls ∈ lw_all) (hini : Cond.initialized cls ∈ lw_all) (hat : ∀ w ∈ vx_at0 y.cls ic cls names, w ∈ lw_tbl) (hgood : ∀ w ∈ vx_at0 y.cls ic cls names, goodWord w = true ∨ (xwk w = true)) (hcl : xcl[ci]? = some (cls, TXO, 0))
    (d0 : decode cc pc = .ok (.new ik, 3)) (d3 : decode cc (pc + 3) = .ok (.dup, 1)) (d4 : decode cc (pc + 4) = .ok (.invokespecial ic, 3)) (hn : names.length + 10 < n) (hw : (st.map fun v => v.category).sum ≤ 8) (hm : mc = mc' + 1) (hm2 : ms = ms' + 6)
    (kk : ∀ q : Nat, h q = none → xz G ≤ q → xW G E nL mc' ms' (xset h q (xob ci (vp_V []))) (pc + 7) L (.ref q :: st)) : xW G E nL mc ms h pc L st := fun H locs cells slots ls hR hF hc hs hl => by
  subst hm; subst hm2
  have e1 : (xER E).frames = n := C.2.2.2.2.2.2.2.2.2.2.1
  have e2 : (xER E).locals = 64 * n := C.2.2.2.2.2.2.2.2.2.2.2.1
  have hzz : xz G ≤ H.size := Nat.le_trans C.I.2.2.2.2.2.2.2.2.2.2.2.2 hF.1
  have hwd : ∀ w ∈ vx_at0 y.cls ic cls names, w.before E.2.2.2.2.2.2.1 (xEs E) = true := fun w hw => by
    rcases hgood w hw with g | g
    · exact C.ts _ (lw_g (hat w hw) g)
    · exact C.wu (hat w hw) g _
  have hgd : ∀ w ∈ Cond.classLink y.cls ik cls :: Cond.initialized cls :: vx_at0 y.cls ic cls names, vx_ot w = true := fun w hw => by
    rcases List.mem_cons.mp hw with rfl | hw
    · rfl
    · rcases List.mem_cons.mp hw with rfl | hw
      · rfl
      · unfold vx_ot
        rcases hgood w hw with g | g
        · rw [g, Bool.or_true]
        · unfold xwk at g
          simp only [Bool.and_eq_true] at g
          rw [g.1, Bool.true_or]
  have hUN := C.I.2.2.2.2.2.2.2.2.2.2.2.1
  have hcl0 := (C.I.1 ci _ hcl).1
  obtain ⟨hx, hb, -⟩ := id C
  have hl9 : E.2.1.stackTraces = false := C.2.2.2.2.2.2.2.2.2.2.2.2
  have hml := C.2.2.2.2.1
  have hown0 := C.own
  have hk0 := C.ts _ hk
  have hini0 := C.ts _ hini
  unfold xW0
  obtain ⟨p, l, e, R, s, m, args, below, meth, c, Q⟩ := E
  dsimp only [xEs, xEm, xER] at *
  intro T hT X
  subst hT
  have hRc : cells + 1 ≤ R.cells := by omega
  have hRs : slots + 6 ≤ R.slots := by omega
  have htr : e.platform.stackTraces = false := (show e.platform.stackTraces = l.stackTraces by rw [X.admits.platform]).trans hl9
  have Y := vx_rebase X (R' := { frames := R.frames, locals := R.locals, cells := 1, slots := 6 }) (Nat.le_refl _) (Nat.le_refl _) hRc hRs
  obtain ⟨s', hA'⟩ : ∃ z, z = (T.setVm s.vm).setFrames (.invoking m args :: below) := ⟨_, rfl⟩
  rw [← hA'] at Y
  have hvm : s'.vm = s.vm := by rw [hA']; rfl
  have hhp : s'.heap = T.heap := by rw [hA']; rfl
  have hW0 : s.WarmedH s'.vm := by rw [hvm]; exact State.WarmedH.refl s
  have hat' : ∀ w ∈ vx_at0 y.cls ic cls names, w.before args s' = true := fun w hw => vx_ot_at hW0 hvm.symm (hgd w (List.mem_cons_of_mem _ (List.mem_cons_of_mem _ hw))) (hwd w hw)
  have hk' : (Cond.classLink y.cls ik cls).before args s' = true := vx_ot_at hW0 hvm.symm (hgd _ List.mem_cons_self) hk0
  have hini' : (Cond.initialized cls).before args s' = true := vx_ot_at hW0 hvm.symm (hgd _ (List.mem_cons_of_mem _ List.mem_cons_self)) hini0
  have hU' : vx_Zq Bundle.tN "UNASSIGNED_STACK" Bundle.steD (xf G) s' s'.heap := by rw [hhp]; exact vx_Zq.moved hW0.alike (hUN.1.kept hF.2.1)
  have hN' : vx_Zq Bundle.tN "SUPPRESSED_SENTINEL" Bundle.listD (xf G) s' s'.heap := by rw [hhp]; exact vx_Zq.moved hW0.alike (hUN.2.kept hF.2.1)
  have h9 : ∀ w ∈ Bundle.ownAtoms0 y.cls ic cls names, w.before args s' = true := vx_own hat' (vx_isRefq hU'.1) (vx_isRefq hN'.1) hU'.2.word hN'.2.word
  have hown' : s'.vm.findClass y.cls = some m.cls := by rw [hvm]; exact hown0
  have hins : (Cond.instantiable cls 6).before args s' = true := h9 _ (by simp [Bundle.ownAtoms0])
  obtain ⟨vm₁, cX, kX, hfX, hkX, -, -, X₁, st1⟩ := Y.newCold hx (own := y.cls) (C := cls) (index := ik) (n := 6) hown' hk' hins hini'
    (g := F0 m pc ls st) rfl (by rw [hb]; exact d0) (Nat.le_refl _) (Nat.le_refl _)
  generalize hT1 : (T.setVm vm₁).pushCell { cls := cX, slots := kX.instanceTypes.map defaultValue, vm := .none } = T1 at X₁ st1
  have hcat : (Value.ref T.heap.size).category = 1 := rfl
  have hcellA : T1.heap[T.heap.size]? = some (freshCell cX kX) := by rw [← hT1]; exact State.heap_pushCell_size _ _
  have d3' : decode c.code (pc + 3) = .ok (.dup, 1) := by rw [hb]; exact d3
  obtain ⟨V, ce, L9, Z, hL, hlt, hcl9, hvm9, st9⟩ := vx_ctorMade0 X₁ hx htr (own := y.cls) (cls := cls) (names := names) (ic := ic) hown' hcls hnames h9 (fun x hx => nomatch hx) hfX hkX hcellA (by rw [hhp]; exact Nat.le_refl _)
    (g := { method := m, pc := pc + 4, locals := ls, stack := .ref T.heap.size :: .ref T.heap.size :: st, locked := none }) rfl (by rw [hml]; exact hl.1) (rest := st) rfl
    (by rw [hb]; exact d4) (by show names.length + 3 < R.frames; omega) (by simp only [List.map_cons, List.sum_cons, hcat]; show _ ≤ R.locals; have : (2 * ({ method := m, pc := pc + 4, locals := ls, stack := .ref T.heap.size :: .ref T.heap.size :: st, locked := none } : JFrame).monitorRoom) = 0 := rfl; omega)
  have Z0 := Stand.forget (locs := []) Z (fun y hy => by rw [hL y hy, hhp]; exact Nat.le_refl _)
  obtain ⟨f1, f2⟩ := vx_frame Z0.same
  rw [hhp] at f1 f2
  have hcid : ce.cls = G.1.1 ci := by
    rw [hcl9]
    rw [hvm] at hfX
    exact Option.some.inj (hfX.symm.trans hcl0.1)
  have hh9 : (V.setCell T.heap.size ce).heap[T.heap.size]? = some ce := heapAt_setCell_self (s := V) ce hlt
  subst hA'
  have X5 := vx_back9 X Y Z0
  have X6 : Stand p l e R s m args below meth c (V.setCell T.heap.size ce) locs (cells + 1) (slots + 6) := { X5 with same := X5.same.mono (by omega) (by omega) }
  have o1 : ∀ q : Nat, q < T.heap.size → (V.setCell T.heap.size ce).heap[q]? = T.heap[q]? := fun q hq => f2 q hq (fun z hz => nomatch hz)
  have hR1 : h T.heap.size = none ∧ xRep G (xset h T.heap.size (xob ci (vp_V []))) (V.setCell T.heap.size ce).heap := hR.push hzz ⟨_, hcl, ce, hh9, hcid, hvm9, fun k hk => absurd hk (Nat.not_lt_zero k)⟩ o1
  have hF1 : va_S (xf G) s.heap (V.setCell T.heap.size ce).heap locs := ⟨Nat.le_trans hF.1 f1, fun q h1 h2 => (o1 q (Nat.lt_of_lt_of_le h1 hF.1)).trans (hF.2.1 q h1 h2), hF.2.2⟩
  obtain ⟨t, a1, b1⟩ := kk T.heap.size hR1.1 hzz _ locs (cells + 1) (slots + 6) ls hR1.2 hF1 (by show cells + 1 + mc' ≤ R.cells; omega) (by show slots + 6 + ms' ≤ R.slots; omega) hl _ rfl X6
  refine ⟨t, st1 _ ?_, b1⟩
  show Steps p.tables e below (T1.setTop { method := m, pc := pc + 3, locals := ls, stack := .ref T.heap.size :: st, locked := none }) _
  jvm_step X₁.here [X₁.here.top, hx, d3', Value.category]
  exact st9 _ a1
/-- System.arraycopy of bytes -/
theorem x_copyb (C : xC G E y cc nL ret hh n) {ak a0 a n0 n1 : Nat} {f g : Nat → Int32} {ty : FieldType} {sp dp k : Int32} (d : decode cc pc = .ok (.invokestatic index, 3)) (q1 : Cond.methodLink y.cls index arraycopyName ∈ lw_all) (q2 : Cond.native arraycopyName ∈ lw_all) (q3 : Cond.static arraycopyName ∈ lw_all) (q4 : Cond.initialized "java/lang/System" ∈ lw_all)
    (hak : xty[ak]? = some ty) (hprim : refKind ty = false) (ha0 : xH G h a0 (xar ak n0 f)) (ha : h a = some (xar ak n1 g)) (h1 : ¬ sp < 0) (h2 : ¬ dp < 0) (h3 : ¬ k < 0) (h4 : sp.toNatClampNeg + k.toNatClampNeg ≤ n0) (h5 : dp.toNatClampNeg + k.toNatClampNeg ≤ n1) (hfit : ∀ i, i < k.toNatClampNeg → fits ty (.int (f (sp.toNatClampNeg + i))) = true)
    (hn : 2 ≤ n) (hw : (st.map fun v => v.category).sum ≤ 8)
    (kk : xW G E nL mc ms (xset h a (xar ak n1 (va_cpy f g sp.toNatClampNeg dp.toNatClampNeg k.toNatClampNeg))) (pc + 3) L st) : xW G E nL mc ms h pc L (.int k :: .int dp :: .ref a :: .int sp :: .ref a0 :: st) := fun H locs cells slots ls hR hF hc hs hl => by
  have nn : ∀ z : Int32, ¬ z < 0 → z.toInt = (z.toNatClampNeg : Int) := by
    intro z hz
    have hz0 : (0 : Int) ≤ z.toInt := by
      have := Int32.not_lt.mp hz
      simpa using Int32.le_iff_toInt_le.mp this
    show z.toInt = ((z.toInt.toNat : Nat) : Int)
    omega
  have e1 : (xER E).frames = n := C.2.2.2.2.2.2.2.2.2.2.1
  have e2 : (xER E).locals = 64 * n := C.2.2.2.2.2.2.2.2.2.2.2.1
  have hc0 : H[a0]? = some (vp_cell (G.2.1 ak) (n0, .inl f)) := ha0.at C hR hF
  have hz : xz G ≤ a := (hR a _ ha).1
  have hc1 : H[a]? = some (vp_cell (G.2.1 ak) (n1, .inl g)) := (hR a _ ha).2
  intro T hT X
  obtain ⟨-, k0, hk0, cm0, hkk0⟩ := (C.I.2.1 ak _ hak).1 n0 (fun j => .int (f j))
  obtain ⟨-, k1, hk1, cm1, hkk1⟩ := (C.I.2.1 ak _ hak).1 n1 (fun j => .int (g j))
  have hnw : nativeFrameWords "java/lang/System" "arraycopy" 5 ≤ 40 := by decide +kernel
  obtain ⟨vm', X', step⟩ := X.arraycopy C.1 C.own (C.ts _ q1) (C.ts _ q2) (C.ts _ q3) (C.ts _ q4) (src := a0) (dst := a) (cs := vp_cell (G.2.1 ak) (n0, .inl f)) (cd := vp_cell (G.2.1 ak) (n1, .inl g)) (srcPos := sp) (destPos := dp) (n := k) (by rw [hT]; exact hc0) (by rw [hT]; exact hc1)
    (fun _ h => by cases h) (fun _ h => by cases h) (fun h => by cases h) (fun h => by cases h) hk0 hk1 hkk0 hkk1 (by simp [hprim]) h1 h2 h3
    (by rw [nn sp h1, nn k h3]; show ¬ _ > ((arrV (G.2.1 ak) n0 (fun j => .int (f j))).slots.size : Int); rw [arrV_size]; omega)
    (by rw [nn dp h2, nn k h3]; show ¬ _ > ((arrV (G.2.1 ak) n1 (fun j => .int (g j))).slots.size : Int); rw [arrV_size]; omega)
    (fun vm₁ _ i hi => by
      have e : (vp_cell (G.2.1 ak) (n0, .inl f)).slots.getD (sp.toNatClampNeg + i) .null = .int (f (sp.toNatClampNeg + i)) := by
        show (arrV (G.2.1 ak) n0 (fun j => .int (f j))).slots.getD _ _ = _
        rw [Array.getD_eq_getD_getElem?, arrV_read _ _ (by omega)]
        rfl
      refine ⟨?_, ?_⟩
      · rw [e]
        exact hfit i hi
      · rw [e]
        exact trivial)
    (g := F0 (xEm E) pc ls (.int k :: .int dp :: .ref a :: .int sp :: .ref a0 :: st)) rfl (by rw [C.2.2.2.2.1]; exact hl.1) (rest := st) rfl (by rw [C.2.1]; exact d) (by show 1 ≤ (xER E).frames; omega) (by show 2 * 0 + _ + _ ≤ (xER E).locals; omega)
  have e9 : copied (vp_cell (G.2.1 ak) (n0, .inl f)) (vp_cell (G.2.1 ak) (n1, .inl g)) sp dp k = vp_cell (G.2.1 ak) (n1, .inl (va_cpy f g sp.toNatClampNeg dp.toNatClampNeg k.toNatClampNeg)) := va_copied (fun z => .int z) _ _ f g h4
  rw [e9] at X' step
  have hl9 : a < H.size := (Array.getElem?_eq_some_iff.mp hc1).1
  have hheap : ((T.setVm vm').setCell a (vp_cell (G.2.1 ak) (n1, .inl (va_cpy f g sp.toNatClampNeg dp.toNatClampNeg k.toNatClampNeg)))).heap = H.setIfInBounds a (vp_cell (G.2.1 ak) (n1, .inl (va_cpy f g sp.toNatClampNeg dp.toNatClampNeg k.toNatClampNeg))) := by rw [← hT]; rfl
  have oq : ∀ q : Nat, q ≠ a → (H.setIfInBounds a (vp_cell (G.2.1 ak) (n1, .inl (va_cpy f g sp.toNatClampNeg dp.toNatClampNeg k.toNatClampNeg))))[q]? = H[q]? := fun q hq => by simp [Array.getElem?_setIfInBounds, Ne.symm hq]
  obtain ⟨t, a1, b1⟩ := kk _ _ cells slots ls (hR.set hz (show (H.setIfInBounds a _)[a]? = some _ by simp [Array.getElem?_setIfInBounds, hl9]) oq) ⟨by simp; exact hF.1, fun q g1 g2 => by
      rw [oq q (fun e => g2 (by rw [e]; exact hz))]
      exact hF.2.1 q g1 g2, fun q hq => by
      rcases List.mem_append.mp hq with h | h
      · exact hF.2.2 q h
      · obtain ⟨z, -, hz9⟩ := List.mem_map.mp h
        rw [← hz9]
        exact hz⟩ hc hs hl _ hheap X'
  exact ⟨t, step t a1, b1⟩
end XE2
