/-! ===== one heap of things by address, for the whole run: what a state knows (xI), a walk's goal (xW), a method's contract (xM) ===== -/
abbrev xO : Type := (Nat × (Nat → Value)) ⊕ (Nat × vp_A)
abbrev xAH : Type := Nat → Option xO
abbrev xG : Type := va_G × (Nat → ClassId) × Nat × (Nat → xO → Prop) × (Nat → Value) × (Nat → Nat)
abbrev xob (ci : Nat) (V : Nat → Value) : xO := .inl (ci, V)
abbrev xar (k n : Nat) (f : Nat → Int32) : xO := .inr (k, n, .inl f)
abbrev xal (k n : Nat) (f : Nat → Int64) : xO := .inr (k, n, .inr (.inl f))
abbrev xad (k n : Nat) (f : Nat → UInt64) : xO := .inr (k, n, .inr (.inr (.inr (.inl f))))
abbrev xaq (k n : Nat) (f : Nat → Option Nat) : xO := .inr (k, n, .inr (.inr (.inr (.inr f))))
def xz (G : xG) : Nat := G.2.2.1
def xf (G : xG) : Nat → Prop := fun q => xz G ≤ q
/-- the thing o lies at q in the heap H -/
def xAt (G : xG) (q : Nat) (o : xO) (H : Heap) : Prop := match o with
  | .inl c => ∃ r : vw_C, xcl[c.1]? = some r ∧ t_OB q (G.1.1 c.1) r.2.2 (G.1.2 c.1) H c.2
  | .inr a => H[q]? = some (vp_cell (G.2.1 a.1) a.2)
theorem xAt.kept {G : xG} {q : Nat} {o : xO} {H H1 : Heap} (h : xAt G q o H) (e : H1[q]? = H[q]?) : xAt G q o H1 := by
  cases o with
  | inl c => obtain ⟨r, h1, h2⟩ := h; exact ⟨r, h1, h2.kept e⟩
  | inr a => exact e.trans h
theorem xAt.lt {G : xG} {q : Nat} {o : xO} {H : Heap} (h : xAt G q o H) : q < H.size := by
  cases o with
  | inl c => obtain ⟨r, h1, cell, h2, -⟩ := h; exact (Array.getElem?_eq_some_iff.mp h2).1
  | inr a => exact (Array.getElem?_eq_some_iff.mp h).1
def xRep (G : xG) (h : xAH) (H : Heap) : Prop := ∀ q o, h q = some o → xz G ≤ q ∧ xAt G q o H
/-- at q there is o: in the heap of the run, or among the constants -/
def xH (G : xG) (h : xAH) (q : Nat) (o : xO) : Prop := h q = some o ∨ G.2.2.2.1 q o
def xset (h : xAH) (a : Nat) (o : xO) : xAH := fun q => if q = a then some o else h q
theorem xset_self (h : xAH) (a : Nat) (o : xO) : xset h a o a = some o := if_pos rfl
theorem xset_ne {h : xAH} {a : Nat} {o : xO} {q : Nat} (e : q ≠ a) : xset h a o q = h q := if_neg e
theorem xset_set (h : xAH) (a : Nat) (o o' : xO) : xset (xset h a o) a o' = xset h a o' := by
  funext q; unfold xset; split <;> rfl
theorem xset_comm {h : xAH} {a b : Nat} {o o' : xO} (e : a ≠ b) : xset (xset h a o) b o' = xset (xset h b o') a o := by
  funext q
  unfold xset
  by_cases h1 : q = b
  · by_cases h2 : q = a
    · exact absurd (h2.symm.trans h1) e
    · simp [h1, e.symm]
  · simp [h1]
theorem xset_id {h : xAH} {a : Nat} {o : xO} (e : h a = some o) : xset h a o = h := by
  funext q
  unfold xset
  split
  · rename_i hq; rw [hq, e]
  · rfl
/-- the words, beyond the good ones, that ride with a state -/
def xwk (w : Cond) : Bool := w.onTables && (match w with
  | .fieldLinkNest .. => true
  | .methodLinkNest .. => true
  | .castable .. => true
  | .declares _ => true
  | .publicMethod _ => true
  | .privateMethod _ => true
  | .unhidden .. => true
  | _ => false)
theorem va_Nw.warmP {w : Cond} (hw : xwk w = true) {s U : State} (hW : s.WarmedH U.vm) (hZ : va_Nw w s) : va_Nw w U := by
  unfold xwk at hw
  cases w <;> simp at hw
  case fieldLinkNest => exact va_Nw.warmF hW hZ
  case methodLinkNest => exact va_Nw.warmM hW hZ
  case castable => exact va_Nw.warmC hW hZ
  case declares => exact va_Nw.warmD hW hZ
  case publicMethod x => exact va_tabs rfl (rfl : (s.setVm U.vm).vm = U.vm) (by rw [Cond.publicMethod_setVm hW.alike]; exact hZ)
  case privateMethod x => exact va_tabs rfl (rfl : (s.setVm U.vm).vm = U.vm) (by rw [Cond.privateMethod_setVm hW.alike]; exact hZ)
  case unhidden a b d => exact va_tabs rfl (rfl : (s.setVm U.vm).vm = U.vm) (by rw [Cond.unhidden_setVm hW.alike]; exact hZ)
/-- a field of a class, where it lies in an object -/
def xFd (s : State) (r : vw_C) (k i : Nat) : Prop := ∃ (cf : Nat) (kf : Class) (fi : Nat) (f : Field), s.fieldFound? (r.2.1 k).1 (r.2.1 k).2.1 (r.2.1 k).2.2.1 = some (cf, kf, fi, f) ∧ f.isStatic = false ∧ f.slot = i
theorem xFd.moved {u U : State} (hvm : u.vm.Alike U.vm) {r : vw_C} {k i : Nat} (h : xFd u r k i) : xFd U r k i := by
  obtain ⟨cf, kf, fi, f, h1, h2, h3⟩ := h
  obtain ⟨k', hi', -⟩ := State.fieldFound?_setVm (s := u) hvm h1
  exact ⟨cf, k', fi, f, by simpa only [State.fieldFound?, State.vm_setVm] using hi', h2, h3⟩
/-- interface methods that are called: declared, and found by their own name -/
def xfm : List MethodName := [⟨"java/util/List", "add", "(Ljava/lang/Object;)Z"⟩, ⟨"java/util/List", "size", "()I"⟩, ⟨"java/util/List", "get", "(I)Ljava/lang/Object;"⟩, ⟨"java/util/List", "iterator", "()Ljava/util/Iterator;"⟩, ⟨"java/util/Iterator", "hasNext", "()Z"⟩, ⟨"java/util/Iterator", "next", "()Ljava/lang/Object;"⟩, ⟨"RoseGuild$Place", "isNamed", "(Ljava/lang/String;)Z"⟩, ⟨"RoseGuild$Place", "point", "()LRoseGuild$Point;"⟩, ⟨"RoseGuild$Place", "name", "()Ljava/lang/String;"⟩, ⟨"RoseGuild$Place", "distance", "(LRoseGuild$Place;)I"⟩]
def xIf (x : MethodName) (U : State) : Prop := (x.cls ≠ "java/lang/invoke/MethodHandle" ∧ x.cls ≠ "java/lang/invoke/VarHandle") ∧ (Cond.declares x).before #[] U = true ∧ (Cond.interfaceMethod x.cls x.cls x.name x.desc).before #[] U = true
theorem xIf.moved {x : MethodName} {u U : State} (hvm : u.vm.Alike U.vm) (h : xIf x u) : xIf x U := by
  obtain ⟨hx, h1, h2⟩ := h
  obtain ⟨r, meth, hn, -⟩ := Cond.declares_spec h1
  have tr : ∀ {c : Cond}, c.onTables = true → c.before #[] (u.setVm U.vm) = true → c.before #[] U = true := by
    intro c hc h
    have e := Cond.onTables_vm (A := #[]) (A' := #[]) (U := u) (U' := U) U.vm c hc
    have hU : U.setVm U.vm = U := rfl
    rw [hU] at e
    rw [← e]
    exact h
  exact ⟨hx, tr rfl (by rw [Cond.declares_setVm hvm]; exact h1), tr rfl (by rw [Cond.interfaceMethod_setVm hvm (r := r) hn hx]; exact h2)⟩
/-- defaults: class, the method called, the default that runs -/
def xdf : List (String × MethodName × MethodName) := [("RoseGuild$Garden", ⟨"RoseGuild$Place", "isNamed", "(Ljava/lang/String;)Z"⟩, ⟨"RoseGuild$Place", "isNamed", "(Ljava/lang/String;)Z"⟩), ("RoseGuild$Street", ⟨"RoseGuild$Place", "isNamed", "(Ljava/lang/String;)Z"⟩, ⟨"RoseGuild$Place", "isNamed", "(Ljava/lang/String;)Z"⟩), ("RoseGuild$Garden", ⟨"RoseGuild$Place", "distance", "(LRoseGuild$Place;)I"⟩, ⟨"RoseGuild$Place", "distance", "(LRoseGuild$Place;)I"⟩), ("RoseGuild$Street", ⟨"RoseGuild$Place", "distance", "(LRoseGuild$Place;)I"⟩, ⟨"RoseGuild$Place", "distance", "(LRoseGuild$Place;)I"⟩), ("RoseGuild$Street", ⟨"RoseGuild$Street", "distanceInDirection", "(LRoseGuild$Place;I)I"⟩, ⟨"RoseGuild$Place", "distanceInDirection", "(LRoseGuild$Place;I)I"⟩)]
def xDf (q : String × MethodName × MethodName) (U : State) : Prop := (Cond.landsInDefault q.1 q.2.1 q.2.2).before #[] U = true
theorem xDf.moved {q : String × MethodName × MethodName} {u U : State} (hvm : u.vm.Alike U.vm) (h : xDf q u) : xDf q U := by
  have h1 : (Cond.landsInDefault q.1 q.2.1 q.2.2).before #[] (u.setVm U.vm) = true := (Cond.landsInDefault_setVm hvm (State.methodFound?_setVm hvm _ _ _)).trans h
  exact h1
/-- classes that are not of another -/
def xnc : List (String × String) := [("RoseGuild$Block", "RoseGuild$Single")]
def xnw : List Cond := [.methodLink "RoseGuild$Guild" 214 ⟨"RoseGuild$Street", "distanceInDirection", "(LRoseGuild$Place;I)I"⟩, .sameMethod "RoseGuild$Street" "RoseGuild$Place" "distanceInDirection" "(LRoseGuild$Place;I)I"]
/-- what every state of the run knows: classes, arrays, words, strings, statics, constants -/
def xI (G : xG) (s : State) : Prop :=
  (∀ (c : Nat) (r : vw_C), xcl[c]? = some r → ClassAt s r.1 (G.1.1 c) ∧ ∀ k, k < r.2.2 → xFd s r k (G.1.2 c k)) ∧
  (∀ (k : Nat) (ty : FieldType), xty[k]? = some ty → ArrOfT s (G.2.1 k) ty ∧ va_RA s (G.2.1 k) ty) ∧
  (∀ w ∈ lw_tbl, xwk w = true → va_Nw w s) ∧
  (va_AO "java/lang/Object" s ∧ va_AO "RoseGuild$Guild" s ∧ va_AO "java/util/HashMap$Node" s) ∧
  (∀ x ∈ xfm, xIf x s) ∧ (∀ q ∈ xdf, xDf q s) ∧ (∀ q ∈ xnc, va_Nc q.1 q.2 s) ∧ (∀ w ∈ xnw, va_Nw w s) ∧
  (∀ (i : Nat) (r : String × Nat × String), xsr[i]? = some r → vk_R r.1 r.2.1 r.2.2 (G.2.2.2.2.2 i) s) ∧
  (∀ (i : Nat) (r : String × String × String), xsf[i]? = some r → va_Z r.1 r.2.1 r.2.2 (G.2.2.2.2.1 i) (xf G) s s.heap) ∧
  (∀ q o, G.2.2.2.1 q o → q < xz G ∧ xAt G q o s.heap) ∧
  (vx_Zq Bundle.tN "UNASSIGNED_STACK" Bundle.steD (xf G) s s.heap ∧ vx_Zq Bundle.tN "SUPPRESSED_SENTINEL" Bundle.listD (xf G) s s.heap) ∧
  xz G ≤ s.heap.size
/-- since the method's start nothing below xz has changed -/
def xF (G : xG) (s : State) (H : Heap) (locs : List Loc) : Prop := va_S (xf G) s.heap H locs
theorem xI.keptC {G : xG} {s : State} {H : Heap} {locs : List Loc} (h : xI G s) (hF : xF G s H locs) {q : Nat} {o : xO} (hq : G.2.2.2.1 q o) : q < xz G ∧ xAt G q o H := by
  obtain ⟨-, -, -, -, -, -, -, -, -, -, h3, -, hz⟩ := h
  obtain ⟨h1, h2⟩ := h3 q o hq
  exact ⟨h1, h2.kept (hF.2.1 q h2.lt (fun e => Nat.not_le.mpr h1 e))⟩
/-- what a callee's start knows -/
theorem xI.call {G : xG} {s U : State} {H : Heap} {locs : List Loc} (h : xI G s) (hF : xF G s H locs) (hU : U.heap = H) (hW : s.WarmedH U.vm) : xI G U := by
  obtain ⟨h1, h2, h3, h4, h5, h6, h7, h7w, h8, h9, h10, h11, h12⟩ := h
  have hA := hW.alike
  refine ⟨fun c r hc => ⟨classAt_moved hA (h1 c r hc).1, fun k hk => ((h1 c r hc).2 k hk).moved hA⟩, fun k ty hk => ⟨arrOfT_moved hA (h2 k ty hk).1, (h2 k ty hk).2.moved hA⟩,
    fun w hw g => va_Nw.warmP g hW (h3 w hw g), ⟨h4.1.moved hA, h4.2.1.moved hA, h4.2.2.moved hA⟩, fun x hx => (h5 x hx).moved hA, fun q hq => (h6 q hq).moved hA, fun q hq => (h7 q hq).moved hA,
    fun w hw => ?_, fun i r hi => vk_R.warm hW (h8 i r hi), fun i r hi => ?_, fun q o hq => ?_, ⟨?_, ?_⟩, ?_⟩
  · have hg : (w.onTables && w.keeps) = true := by
      simp only [xnw, List.mem_cons, List.not_mem_nil, or_false] at hw
      rcases hw with rfl | rfl <;> rfl
    exact word_at hW (Or.inl hg) (h7w w hw)
  · rw [hU]; exact ((h9 i r hi).moved hA).kept hF.2.1
  · rw [hU]
    have := h10 q o hq
    exact ⟨this.1, this.2.kept (hF.2.1 q this.2.lt (fun e => Nat.not_le.mpr this.1 e))⟩
  · rw [hU]; exact (h11.1.moved hA).kept hF.2.1
  · rw [hU]; exact (h11.2.moved hA).kept hF.2.1
  · rw [hU]; exact Nat.le_trans h12 hF.1
theorem xI.calling {G : xG} {U : State} (h : xI G U) (g : JFrame) (mk : MethodId) (a : Array Value) : xI G (U.calling g mk a) :=
  h.call (H := U.heap) (locs := []) va_S.rf rfl (State.WarmedH.refl U)
/-! contracts -/
abbrev xH_ : Type := List (Nat × Nat × Nat × Nat)
def xcode (y : MethodName) (b : ByteArray) (nL : Nat) (ret : Option FieldType) : xH_ → Cond
  | [] => Cond.code y b nL ret
  | t :: hh => Cond.codeWith y b nL ret (t :: hh)
def xws (y : MethodName) (b : ByteArray) (nL : Nat) (ret : Option FieldType) (hh : xH_) : List Cond := xcode y b nL ret hh :: lw_all
def xPc (G : xG) (av : List Value) (h : xAH) : Array Value → State → Prop := fun a U => a = av.toArray ∧ xRep G h U.heap ∧ xI G U
def xQc (G : xG) (P : Option Value → xAH → Prop) : Array Value → State → Outcome → State → Prop := fun _ st o t => ∃ r h', o = .returned r ∧ P r h' ∧ xRep G h' t.heap ∧ va_F (xf G) st t
def xXC (G : xG) (PX : String → Nat → xAH → Prop) : String → Addr → State → State → Prop := fun E q st t => ∃ h', PX E q h' ∧ xRep G h' t.heap ∧ va_F (xf G) st t
abbrev xrm (n mc ms : Nat) : Room := { frames := n, cells := mc, slots := ms, locals := 64 * n }
/-- the contract: from the heap h and the arguments av, the method returns with P or throws with PX; it goes n calls deep, makes mc things of ms places -/
def xM (G : xG) (l : Launch) (y : MethodName) (b : ByteArray) (nL : Nat) (ret : Option FieldType) (hh : xH_) (n mc ms : Nat) (av : List Value) (h : xAH) (P : Option Value → xAH → Prop) (PX : String → Nat → xAH → Prop) : Prop :=
  vx_Met l y (xws y b nL ret hh) (xrm n mc ms) (xPc G av h) (xQc G P) (xXC G PX) mc ms (xf G)
abbrev xNo : String → Nat → xAH → Prop := fun _ _ _ => False
theorem xPc_blind {G : xG} {av : List Value} {h : xAH} : FrameBlind (xPc G av h) := fun a U g mk q => ⟨q.1, q.2.1, q.2.2.calling g mk a⟩
/-! the machine of one walk, as one name -/
abbrev xE : Type := Program × Launch × Env × Room × State × MethodId × Array Value × List Frame × Method × Code × (State → Prop)
def xEs (E : xE) : State := E.2.2.2.2.1
def xEm (E : xE) : MethodId := E.2.2.2.2.2.1
def xER (E : xE) : Room := E.2.2.2.1
def xW0 (E : xE) (H : Heap) (locs : List Loc) (cells slots : Nat) (g : JFrame) : Prop := W E.1 E.2.1 E.2.2.1 E.2.2.2.1 E.2.2.2.2.1 E.2.2.2.2.2.1 E.2.2.2.2.2.2.1 E.2.2.2.2.2.2.2.1 E.2.2.2.2.2.2.2.2.1 E.2.2.2.2.2.2.2.2.2.1 H locs cells slots E.2.2.2.2.2.2.2.2.2.2 g
def xT0 (E : xE) (H : Heap) (locs : List Loc) (cells slots : Nat) (g : JFrame) (q : Addr) : Prop := vx_W E.1 E.2.1 E.2.2.1 E.2.2.2.1 E.2.2.2.2.1 E.2.2.2.2.2.1 E.2.2.2.2.2.2.1 E.2.2.2.2.2.2.2.1 E.2.2.2.2.2.2.2.2.1 E.2.2.2.2.2.2.2.2.2.1 H locs cells slots E.2.2.2.2.2.2.2.2.2.2 g q
/-- a walk at pc with the heap h, locals L, stack st; mc, ms: what may yet be made -/
def xW (G : xG) (E : xE) (nL mc ms : Nat) (h : xAH) (pc : Nat) (L : List (Nat × Value)) (st : List Value) : Prop :=
  ∀ (H : Heap) (locs : List Loc) (cells slots : Nat) (ls : Array Slot), xRep G h H → xF G (xEs E) H locs → cells + mc ≤ (xER E).cells → slots + ms ≤ (xER E).slots → lv_has ls nL L → xW0 E H locs cells slots (F0 (xEm E) pc ls st)
/-- the same with the exception q, of class X, thrown at pc -/
def xT (G : xG) (E : xE) (nL mc ms : Nat) (h : xAH) (pc : Nat) (L : List (Nat × Value)) (X : String) (q : Nat) : Prop :=
  ∀ (H : Heap) (locs : List Loc) (cells slots : Nat) (ls : Array Slot) (st : List Value) (ce : Cell), xRep G h H → xF G (xEs E) H locs → cells + mc ≤ (xER E).cells → slots + ms ≤ (xER E).slots → lv_has ls nL L →
    H[q]? = some ce → ce.vm = .none → (xEs E).vm.findClass X = some ce.cls → xT0 E H locs cells slots (F0 (xEm E) pc ls st) q
/-- what a walk may use: the machine, its code, the words -/
def xC (G : xG) (E : xE) (y : MethodName) (cc : ByteArray) (nL : Nat) (ret : Option FieldType) (hh : xH_) (n : Nat) : Prop :=
  E.1.tables.exec = Jvm.exec ∧ E.2.2.2.2.2.2.2.2.2.1.code = cc ∧ E.2.2.2.2.2.2.2.2.1.sig.returnType = ret ∧ E.2.2.2.2.2.2.2.2.1.locks = false ∧ E.2.2.2.2.2.2.2.2.2.1.maxLocals = nL ∧ (xEs E).vm.findClass y.cls = some (xEm E).cls ∧ E.2.2.2.2.2.2.2.2.1.name = y.name ∧
  E.2.2.2.2.2.2.2.2.2.1.exceptionTable.toList = tableOf hh ∧ (∀ w ∈ lw_all, w.before E.2.2.2.2.2.2.1 (xEs E) = true) ∧ xI G (xEs E) ∧ (xER E).frames = n ∧ (xER E).locals = 64 * n ∧ E.2.1.stackTraces = false
