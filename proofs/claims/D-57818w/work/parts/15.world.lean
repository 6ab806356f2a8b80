/-! ===== what the start gives: statics, constants, texts ===== -/
def tx (s : String) : List Nat := s.toList.map Char.toNat
/-- at a there is a String of the letters t (all below 128) -/
def xTx (G : xG) (h : xAH) (a : Nat) (t : List Nat) : Prop := ∃ (v : Nat) (f : Nat → Int32) (hash hz : Int32), xH G h a (xob 26 (vp_V [.ref v, .int 0, .int hash, .int hz])) ∧ xH G h v (xar 1 t.length f) ∧ (∀ k, k < t.length → f k = nI (t.getD k 0)) ∧ (∀ c, c ∈ t → c < 128) ∧ t.length < 2 ^ 20
def xTxC (G : xG) (a : Nat) (t : List Nat) : Prop := ∃ (v : Nat) (f : Nat → Int32) (hash hz : Int32), G.2.2.2.1 a (xob 26 (vp_V [.ref v, .int 0, .int hash, .int hz])) ∧ G.2.2.2.1 v (xar 1 t.length f) ∧ (∀ k, k < t.length → f k = nI (t.getD k 0)) ∧ (∀ c, c ∈ t → c < 128) ∧ t.length < 2 ^ 20
theorem xTxC.tx {G : xG} {a : Nat} {t : List Nat} (h : xTxC G a t) (hp : xAH) : xTx G hp a t := by
  obtain ⟨v, f, q, z, h1, h2, h3, h4, h5⟩ := h
  exact ⟨v, f, q, z, Or.inr h1, Or.inr h2, h3, h4, h5⟩
abbrev xst (G : xG) (i : Nat) : Value := G.2.2.2.2.1 i
def xfmt (v : Value) : Prop := v = .null ∨ ∃ q, v = .ref q
/-- the world: what the statics hold, what the texts are -/
def xWd (G : xG) : Prop :=
  xst G 10 = .int (nI 1) ∧ xst G 11 = .int (nI 1) ∧ xfmt (xst G 16) ∧ xfmt (xst G 17) ∧
  (∃ e, xst G 8 = .ref e ∧ G.2.2.2.1 e (xaq 6 0 (fun _ => none))) ∧
  (∃ e, xst G 9 = .ref e ∧ G.2.2.2.1 e (xob 31 (fun _ => .null))) ∧
  (∃ e f, xst G 12 = .ref e ∧ G.2.2.2.1 e (xar 1 100 f) ∧ ∀ k, k < 100 → f k = nI (48 + k / 10)) ∧
  (∃ e f, xst G 13 = .ref e ∧ G.2.2.2.1 e (xar 1 100 f) ∧ ∀ k, k < 100 → f k = nI (48 + k % 10)) ∧
  (∃ e, xst G 0 = .ref e ∧ G.2.2.2.1 e (xob 3 (vp_V [.int (nI 0), .int (nI 0)]))) ∧
  (∃ k : Nat → Nat, (∀ i, 1 ≤ i → i ≤ 3 → xst G i = .ref (k i) ∧ G.2.2.2.1 (k i) (xob 32 (vp_V [.int (nI (i - 1))]))) ∧ (∀ i j, 1 ≤ i → i ≤ 3 → 1 ≤ j → j ≤ 3 → k i = k j → i = j)) ∧
  (∃ k : Nat → Nat, (∀ i, 4 ≤ i → i ≤ 7 → xst G i = .ref (k i) ∧ G.2.2.2.1 (k i) (xob 33 (vp_V [.int (nI (i - 4))]))) ∧ (∀ i j, 4 ≤ i → i ≤ 7 → 4 ≤ j → j ≤ 7 → k i = k j → i = j)) ∧
  ∀ (i : Nat) (r : String × Nat × String), xsr[i]? = some r → xTxC G (G.2.2.2.2.2 i) (tx r.2.2)
section
variable {G : xG}
theorem xWd.cs (h : xWd G) : xst G 10 = .int (nI 1) := h.1
theorem xWd.ba (h : xWd G) : xst G 11 = .int (nI 1) := h.2.1
theorem xWd.f16 (h : xWd G) : xfmt (xst G 16) := h.2.2.1
theorem xWd.f17 (h : xWd G) : xfmt (xst G 17) := h.2.2.2.1
theorem xWd.txt (h : xWd G) : ∀ (i : Nat) (r : String × Nat × String), xsr[i]? = some r → xTxC G (G.2.2.2.2.2 i) (tx r.2.2) := h.2.2.2.2.2.2.2.2.2.2.2
end
theorem asc_char {c : Nat} (h : c < 128) : ((nI c &&& nI 255).toUInt32 % 65536).toInt32 = nI c := by
  rw [pk_andN (by omega) (m := nI 255) 8 (by decide), pk_char, pk_tn (by omega)]
  congr 1
  omega
theorem shr0 (n : Nat) : nI n >>> (nI 0 &&& 31) = nI n := by
  have e : (nI 0 &&& 31 : Int32) = 0 := by decide
  rw [e]
  exact Int32.shiftRight_zero
/-- f holds the letters t -/
def xLt (f : Nat → Int32) (t : List Nat) : Prop := (∀ k, k < t.length → f k = nI (t.getD k 0)) ∧ (∀ c, c ∈ t → c < 128) ∧ t.length < 2 ^ 20
theorem xLt.asc {f : Nat → Int32} {t : List Nat} (h : xLt f t) {k : Nat} (hk : k < t.length) : t.getD k 0 < 128 := h.2.1 _ (by rw [List.getD_eq_getElem?_getD, List.getElem?_eq_getElem hk]; exact List.getElem_mem hk)
theorem xLt.eqv {f g : Nat → Int32} {t s : List Nat} (h1 : xLt f t) (h2 : xLt g s) (e : t.length = s.length) (he : ∀ k, k < t.length → f k = g k) : t = s := by
  refine List.ext_getElem e (fun k hk hk2 => ?_)
  have a1 := h1.1 k hk
  have a2 := h2.1 k hk2
  have := he k hk
  rw [a1, a2] at this
  have b1 := h1.asc hk
  have b2 := h2.asc hk2
  have := (nI_eq (by omega) (by omega)).mp this
  simpa [List.getD_eq_getElem?_getD, hk, hk2] using this
theorem xLt.nev {f g : Nat → Int32} {t s : List Nat} (h1 : xLt f t) (h2 : xLt g s) {k : Nat} (hk : k < t.length) (he : ¬ f k = g k) : ¬ t = s := by
  intro e
  subst e
  exact he ((h1.1 k hk).trans (h2.1 k hk).symm)
