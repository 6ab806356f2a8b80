/-! ===== setups, as the reference reads them (pure) ===== -/
theorem sp_reads_k (b F : Nat → Int32) {k : Nat} (h1 : k ≠ 13) (h2 : k ≠ 14) (h3 : k ≠ 15) (h4 : k ≠ 16) : sp_reads b F k = F k := by
  unfold sp_reads sp_readsF
  repeat' split
  all_goals simp only [va_ne h1, va_ne h2, va_ne h3, va_ne h4]
theorem sp_on_k (b F : Nat → Int32) {k : Nat} (h1 : k ≠ 13) (h2 : k ≠ 14) (h3 : k ≠ 15) (h4 : k ≠ 16) : sp_on b F k = F k := by
  unfold sp_on
  split
  · exact sp_reads_k b F h1 h2 h3 h4
  · rfl
theorem sp_look_k (F : Nat → Int32) (lo hi : Int32) {k : Nat} (h1 : k ≠ 17) (h2 : k ≠ 18) : sp_look F lo hi k = F k := by
  unfold sp_look sp_look1
  split
  · rw [sp_must_k _ _ _ h1 h2, sp_must_k _ _ _ h1 h2]
  · rw [sp_must_k _ _ _ h1 h2]
/-- once wrong, wrong for good: the code and the place stay -/
def dead (F X : Nat → Int32) : Prop := ¬ F 17 = 0 → X 17 = F 17 ∧ X 18 = F 18
theorem dead.rf (F : Nat → Int32) : dead F F := fun _ => ⟨rfl, rfl⟩
theorem dead.tr {F X Y : Nat → Int32} (h : dead F X) (h2 : dead X Y) : dead F Y := fun q => by
  have a := h q
  have b := h2 (by rw [a.1]; exact q)
  exact ⟨b.1.trans a.1, b.2.trans a.2⟩
theorem dead.live {F X : Nat → Int32} (h : dead F X) (q : X 17 = 0) : F 17 = 0 := Decidable.byContradiction fun e => e ((h e).1.symm.trans q)
theorem dead.must (F : Nat → Int32) (b : Bool) (i : Int32) : dead F (sp_must F b i) := fun q => by rw [sp_must_n (fun e => q e.1)]; exact ⟨rfl, rfl⟩
theorem dead.on (b F : Nat → Int32) : dead F (sp_on b F) := fun q => by rw [sp_on_n q]; exact ⟨rfl, rfl⟩
theorem dead.sign (b F : Nat → Int32) (c : Int32) : dead F (sp_sign b F c) := (dead.must F _ _).tr (dead.on b _)
theorem dead.look (F : Nat → Int32) (lo hi : Int32) : dead F (sp_look F lo hi) := by
  unfold sp_look sp_look1
  split
  · exact (dead.must _ _ _).tr (dead.must _ _ _)
  · exact dead.must _ _ _
theorem dead.num (b F : Nat → Int32) (lo hi : Int32) : dead F (sp_num b F lo hi) := (dead.look F lo hi).tr (dead.on b _)
theorem dead.lname (F : Nat → Int32) : dead F (sp_lname F) := by
  unfold sp_lname sp_lname1
  split
  · exact (dead.must _ _ _).tr (dead.must _ _ _)
  · exact dead.must _ _ _
theorem dead.up (F : Nat → Int32) {k : Nat} (v : Int32) (h1 : k ≠ 17) (h2 : k ≠ 18) : dead F (va_up F k v) := fun _ => ⟨va_ne h1.symm, va_ne h2.symm⟩
theorem sp_must_live {F : Nat → Int32} {b : Bool} {i : Int32} (hi : ¬ i = 0) (h : sp_must F b i 17 = 0) : b = true := by
  cases b with
  | true => rfl
  | false =>
    exfalso
    by_cases e : F 17 = 0
    · rw [sp_must_y e rfl, va_ne (by decide), va_eq] at h
      exact hi h
    · rw [sp_must_n (fun q => e q.1)] at h
      exact e h
def sp_place1 (b : Nat → Int32) (n F : Nat → Int32) (isS : Bool) : Nat → Int32 :=
  let F1 := va_up (sp_lname F) 19 (sp_lnv b (sp_lname F))
  sp_on b (sp_must F1 (decide (¬ F1 17 = 0 ∨ oI (if isS = true then sp_find n 16 (F1 19) (cn (n 6)) 0 else sp_find n 88 (F1 19) (cn (n 7)) 0) = -1)) (nI 3))
def sp_place2 (b F : Nat → Int32) : Nat → Int32 :=
  let F3 := va_up (sp_num b F (nI 0) (nI 9)) 20 (sp_look F (nI 0) (nI 9) 16)
  let F4 := sp_look F3 (nI 0) (nI 9)
  va_up F4 21 (if F4 17 = 0 then F4 16 else nI 0)
def sp_place (b : Nat → Int32) (n F : Nat → Int32) (isS : Bool) : Nat → Int32 :=
  let F5 := sp_place2 b (sp_place1 b n F isS)
  sp_on b (sp_must F5 (decide (¬ F5 17 = 0 ∨ sp_taken n (cn (n 6)) (cn (n 7)) (F5 20) (F5 21) = false)) (nI 4))
theorem dead.place1 (b n F : Nat → Int32) (s : Bool) : dead F (sp_place1 b n F s) := (((dead.lname F).tr (dead.up _ _ (by decide) (by decide))).tr (dead.must _ _ _)).tr (dead.on _ _)
theorem dead.place2 (b F : Nat → Int32) : dead F (sp_place2 b F) := (((dead.num b F _ _).tr (dead.up _ _ (by decide) (by decide))).tr (dead.look _ _ _)).tr (dead.up _ _ (by decide) (by decide))
theorem dead.place (b n F : Nat → Int32) (s : Bool) : dead F (sp_place b n F s) := (((dead.place1 b n F s).tr (dead.place2 b _)).tr (dead.must _ _ _)).tr (dead.on _ _)
theorem Pok.place1 {F : Nat → Int32} (h : Pok F) (b n : Nat → Int32) (s : Bool) : Pok (sp_place1 b n F s) := ((h.lname.up _ (by decide) (by decide) (by decide)).must _ _).on _
theorem Pok.place2 {F : Nat → Int32} (h : Pok F) (b : Nat → Int32) : Pok (sp_place2 b F) := ((((h.num b _ _).up _ (by decide) (by decide) (by decide)).look _ _).up _ (by decide) (by decide) (by decide))
theorem Pok.place {F : Nat → Int32} (h : Pok F) (b n : Nat → Int32) (s : Bool) : Pok (sp_place b n F s) := (((h.place1 b n s).place2 b).must _ _).on _
def sp_streetA (b n F : Nat → Int32) : Nat → Int32 := sp_place b n (sp_on b (sp_must (sp_must F (sp_isWord b F (tx "street")) (nI 1)) (decide (n 6 < nI 8)) (nI 5))) true
def sp_streetF (b n F : Nat → Int32) : Nat → Int32 := sp_sign b (sp_num b (sp_num b (sp_streetA b n F) (nI 1) (nI 50)) (nI 1) (nI 200)) (nI 59)
def sp_streetP (b n F X : Nat → Int32) : Nat → Int32 :=
  let p := 16 + 9 * cn (n 6)
  let n1 := va_up n (p + 0) (X 19)
  let n2 := va_up n1 (p + 1) (X 20)
  let n3 := va_up n2 (p + 2) (X 21)
  let n4 := va_up n3 (p + 3) (sp_look (sp_streetA b n F) (nI 1) (nI 50) 16)
  let n5 := va_up n4 (p + 4) (sp_look (sp_num b (sp_streetA b n F) (nI 1) (nI 50)) (nI 1) (nI 200) 16)
  va_up n5 6 (n5 6 + nI 1)
def sp_streetN (b n F : Nat → Int32) : Nat → Int32 := if sp_streetF b n F 17 = 0 then sp_streetP b n F (sp_streetF b n F) else n
def sp_gardenA (b n F : Nat → Int32) : Nat → Int32 := sp_place b n (sp_on b (sp_must (sp_must F (sp_isWord b F (tx "garden")) (nI 1)) (decide (n 7 < nI 6)) (nI 5))) false
def sp_gardenF (b n F : Nat → Int32) : Nat → Int32 := sp_sign b (sp_num b (sp_gardenA b n F) (nI 1) (nI 30)) (nI 59)
def sp_gardenP (b n F X : Nat → Int32) : Nat → Int32 :=
  let p := 88 + 9 * cn (n 7)
  let n1 := va_up n (p + 0) (X 19)
  let n2 := va_up n1 (p + 1) (X 20)
  let n3 := va_up n2 (p + 2) (X 21)
  let n4 := va_up n3 (p + 3) (sp_look (sp_gardenA b n F) (nI 1) (nI 30) 16)
  va_up n4 7 (n4 7 + nI 1)
def sp_gardenN (b n F : Nat → Int32) : Nat → Int32 := if sp_gardenF b n F 17 = 0 then sp_gardenP b n F (sp_gardenF b n F) else n
def sp_cartA (b n F : Nat → Int32) : Nat → Int32 := sp_on b (sp_must (sp_must F (sp_isWord b F (tx "cart")) (nI 1)) (decide (n 8 < nI 6)) (nI 5))
def sp_cartF (b n F : Nat → Int32) : Nat → Int32 := sp_sign b (sp_num b (sp_num b (sp_cartA b n F) (nI 1) (nI 60)) (nI 1) (nI 9)) (nI 59)
def sp_cartP (b n F : Nat → Int32) : Nat → Int32 :=
  let p := 142 + 5 * cn (n 8)
  let n1 := va_up n (p + 0) (sp_look (sp_cartA b n F) (nI 1) (nI 60) 16)
  let n2 := va_up n1 (p + 1) (sp_look (sp_num b (sp_cartA b n F) (nI 1) (nI 60)) (nI 1) (nI 9) 16)
  va_up n2 8 (n2 8 + nI 1)
def sp_cartN (b n F : Nat → Int32) : Nat → Int32 := if sp_cartF b n F 17 = 0 then sp_cartP b n F else n
abbrev FN : Type := (Nat → Int32) × (Nat → Int32)
def sp_street (b : Nat → Int32) (x : FN) : FN := (sp_streetF b x.2 x.1, sp_streetN b x.2 x.1)
def sp_garden (b : Nat → Int32) (x : FN) : FN := (sp_gardenF b x.2 x.1, sp_gardenN b x.2 x.1)
def sp_cart (b : Nat → Int32) (x : FN) : FN := (sp_cartF b x.2 x.1, sp_cartN b x.2 x.1)
def sp_streets (b : Nat → Int32) : Nat → FN → FN
  | 0, x => x
  | d + 1, x => if sp_isWord b x.1 (tx "street") = true then sp_streets b d (sp_street b x) else x
def sp_gardens (b : Nat → Int32) : Nat → FN → FN
  | 0, x => x
  | d + 1, x => if sp_isWord b x.1 (tx "garden") = true then sp_gardens b d (sp_garden b x) else x
def sp_carts (b : Nat → Int32) : Nat → FN → FN
  | 0, x => x
  | d + 1, x => if x.1 17 = 0 ∧ ¬ x.1 15 = 0 then sp_carts b d (sp_cart b x) else x
def sp_head0 (b F : Nat → Int32) : Nat → Int32 := sp_on b (sp_must F (sp_isWord b F (tx "guild")) (nI 1))
def sp_head (b : Nat → Int32) (x : FN) : FN :=
  let F0 := sp_head0 b x.1
  let F1 := sp_num b F0 (nI 1) (nI 12)
  let F2 := sp_num b F1 (nI 0) (nI 9)
  let F3 := sp_num b F2 (nI 0) (nI 99)
  let F4 := sp_num b F3 (nI 0) (nI 99)
  let F5 := sp_num b F4 (nI 0) (nI 3)
  let n1 := va_up x.2 0 (sp_look F0 (nI 1) (nI 12) 16)
  let n2 := va_up n1 1 (sp_look F1 (nI 0) (nI 9) 16)
  let n3 := va_up n2 2 (sp_look F2 (nI 0) (nI 99) 16)
  let n4 := va_up n3 3 (sp_look F3 (nI 0) (nI 99) 16)
  let n5 := va_up n4 4 (sp_look F4 (nI 0) (nI 3) 16)
  (sp_sign b F5 (nI 59), n5)
def sp_setup (b : Nat → Int32) (x : FN) : FN := sp_carts b 8 (sp_cart b (sp_gardens b 8 (sp_garden b (sp_streets b 10 (sp_street b (sp_head b x))))))
/-- the counts of streets, gardens, carts are in order -/
def Nok (n : Nat → Int32) : Prop := lt (n 6) 9 ∧ lt (n 7) 7 ∧ lt (n 8) 7
theorem Pok.streetA {F : Nat → Int32} (h : Pok F) (b n : Nat → Int32) : Pok (sp_streetA b n F) := (((h.must _ _).must _ _).on _).place _ _ _
theorem Pok.gardenA {F : Nat → Int32} (h : Pok F) (b n : Nat → Int32) : Pok (sp_gardenA b n F) := (((h.must _ _).must _ _).on _).place _ _ _
theorem Pok.cartA {F : Nat → Int32} (h : Pok F) (b n : Nat → Int32) : Pok (sp_cartA b n F) := ((h.must _ _).must _ _).on _
theorem Pok.street {F : Nat → Int32} (h : Pok F) (b n : Nat → Int32) : Pok (sp_streetF b n F) := (((h.streetA b n).num _ _ _).num _ _ _).sign _ _
theorem Pok.garden {F : Nat → Int32} (h : Pok F) (b n : Nat → Int32) : Pok (sp_gardenF b n F) := ((h.gardenA b n).num _ _ _).sign _ _
theorem Pok.cart {F : Nat → Int32} (h : Pok F) (b n : Nat → Int32) : Pok (sp_cartF b n F) := (((h.cartA b n).num _ _ _).num _ _ _).sign _ _
theorem dead.streetA (b n F : Nat → Int32) : dead F (sp_streetA b n F) := (((dead.must F _ _).tr (dead.must _ _ _)).tr (dead.on _ _)).tr (dead.place _ _ _ _)
theorem dead.gardenA (b n F : Nat → Int32) : dead F (sp_gardenA b n F) := (((dead.must F _ _).tr (dead.must _ _ _)).tr (dead.on _ _)).tr (dead.place _ _ _ _)
theorem dead.cartA (b n F : Nat → Int32) : dead F (sp_cartA b n F) := ((dead.must F _ _).tr (dead.must _ _ _)).tr (dead.on _ _)
theorem dead.street (b n F : Nat → Int32) : dead F (sp_streetF b n F) := (((dead.streetA b n F).tr (dead.num _ _ _ _)).tr (dead.num _ _ _ _)).tr (dead.sign _ _ _)
theorem dead.garden (b n F : Nat → Int32) : dead F (sp_gardenF b n F) := ((dead.gardenA b n F).tr (dead.num _ _ _ _)).tr (dead.sign _ _ _)
theorem dead.cart (b n F : Nat → Int32) : dead F (sp_cartF b n F) := (((dead.cartA b n F).tr (dead.num _ _ _ _)).tr (dead.num _ _ _ _)).tr (dead.sign _ _ _)
theorem sp_street_live {b n F : Nat → Int32} (h : sp_streetF b n F 17 = 0) : n 6 < nI 8 := by
  have h1 : sp_must (sp_must F (sp_isWord b F (tx "street")) (nI 1)) (decide (n 6 < nI 8)) (nI 5) 17 = 0 := (((((dead.on b _).tr (dead.place b n _ true)).tr (dead.num b _ _ _)).tr (dead.num b _ _ _)).tr (dead.sign b _ _)).live h
  exact of_decide_eq_true (sp_must_live (by decide) h1)
theorem sp_garden_live {b n F : Nat → Int32} (h : sp_gardenF b n F 17 = 0) : n 7 < nI 6 := by
  have h1 : sp_must (sp_must F (sp_isWord b F (tx "garden")) (nI 1)) (decide (n 7 < nI 6)) (nI 5) 17 = 0 := ((((dead.on b _).tr (dead.place b n _ false)).tr (dead.num b _ _ _)).tr (dead.sign b _ _)).live h
  exact of_decide_eq_true (sp_must_live (by decide) h1)
theorem sp_cart_live {b n F : Nat → Int32} (h : sp_cartF b n F 17 = 0) : n 8 < nI 6 := by
  have h1 : sp_must (sp_must F (sp_isWord b F (tx "cart")) (nI 1)) (decide (n 8 < nI 6)) (nI 5) 17 = 0 := ((((dead.on b _).tr (dead.num b _ _ _)).tr (dead.num b _ _ _)).tr (dead.sign b _ _)).live h
  exact of_decide_eq_true (sp_must_live (by decide) h1)
theorem lt_cn {x : Int32} {a k : Nat} (h : lt x a) (ha : a ≤ 2 ^ 30) (hk : k < 2 ^ 30) (e : x < nI k) : cn x < k := by
  have := h.2
  rw [h.1] at e
  exact (nI_ltI (by omega) (by omega)).mp e
theorem Nok.street {b n F : Nat → Int32} (h : Nok n) : Nok (sp_streetN b n F) ∧ (sp_streetF b n F 17 = 0 → cn (sp_streetN b n F 6) = cn (n 6) + 1) := by
  unfold sp_streetN
  by_cases e : sp_streetF b n F 17 = 0
  · have hS := lt_cn h.1 (by decide) (by decide) (sp_street_live e)
    rw [if_pos e]
    have e6 : sp_streetP b n F (sp_streetF b n F) 6 = nI (cn (n 6) + 1) := by
      unfold sp_streetP
      rw [va_eq, va_ne (by omega), va_ne (by omega), va_ne (by omega), va_ne (by omega), va_ne (by omega), ← nI_add, ← h.1.1]
    have ek : ∀ k, k = 7 ∨ k = 8 → sp_streetP b n F (sp_streetF b n F) k = n k := fun k hk => by
      unfold sp_streetP
      rw [va_ne (by omega), va_ne (by omega), va_ne (by omega), va_ne (by omega), va_ne (by omega), va_ne (by omega)]
    refine ⟨⟨?_, ?_, ?_⟩, fun _ => ?_⟩
    · rw [e6]; exact lt_nI (by omega) (by decide)
    · rw [ek 7 (Or.inl rfl)]; exact h.2.1
    · rw [ek 8 (Or.inr rfl)]; exact h.2.2
    · rw [e6, cn_nI (by omega)]
  · rw [if_neg e]; exact ⟨h, fun q => absurd q e⟩
theorem Nok.garden {b n F : Nat → Int32} (h : Nok n) : Nok (sp_gardenN b n F) ∧ (sp_gardenF b n F 17 = 0 → cn (sp_gardenN b n F 7) = cn (n 7) + 1) := by
  unfold sp_gardenN
  by_cases e : sp_gardenF b n F 17 = 0
  · have hS := lt_cn h.2.1 (by decide) (by decide) (sp_garden_live e)
    rw [if_pos e]
    have e6 : sp_gardenP b n F (sp_gardenF b n F) 7 = nI (cn (n 7) + 1) := by
      unfold sp_gardenP
      rw [va_eq, va_ne (by omega), va_ne (by omega), va_ne (by omega), va_ne (by omega), ← nI_add, ← h.2.1.1]
    have ek : ∀ k, k = 6 ∨ k = 8 → sp_gardenP b n F (sp_gardenF b n F) k = n k := fun k hk => by
      unfold sp_gardenP
      rw [va_ne (by omega), va_ne (by omega), va_ne (by omega), va_ne (by omega), va_ne (by omega)]
    refine ⟨⟨?_, ?_, ?_⟩, fun _ => ?_⟩
    · rw [ek 6 (Or.inl rfl)]; exact h.1
    · rw [e6]; exact lt_nI (by omega) (by decide)
    · rw [ek 8 (Or.inr rfl)]; exact h.2.2
    · rw [e6, cn_nI (by omega)]
  · rw [if_neg e]; exact ⟨h, fun q => absurd q e⟩
theorem Nok.cart {b n F : Nat → Int32} (h : Nok n) : Nok (sp_cartN b n F) ∧ (sp_cartF b n F 17 = 0 → cn (sp_cartN b n F 8) = cn (n 8) + 1) := by
  unfold sp_cartN
  by_cases e : sp_cartF b n F 17 = 0
  · have hS := lt_cn h.2.2 (by decide) (by decide) (sp_cart_live e)
    rw [if_pos e]
    have e6 : sp_cartP b n F 8 = nI (cn (n 8) + 1) := by
      unfold sp_cartP
      rw [va_eq, va_ne (by omega), va_ne (by omega), ← nI_add, ← h.2.2.1]
    have ek : ∀ k, k = 6 ∨ k = 7 → sp_cartP b n F k = n k := fun k hk => by
      unfold sp_cartP
      rw [va_ne (by omega), va_ne (by omega), va_ne (by omega)]
    refine ⟨⟨?_, ?_, ?_⟩, fun _ => ?_⟩
    · rw [ek 6 (Or.inl rfl)]; exact h.1
    · rw [ek 7 (Or.inr rfl)]; exact h.2.1
    · rw [e6]; exact lt_nI (by omega) (by decide)
    · rw [e6, cn_nI (by omega)]
  · rw [if_neg e]; exact ⟨h, fun q => absurd q e⟩
theorem sp_streets_stop {b : Nat → Int32} {x : FN} (h : ¬ sp_isWord b x.1 (tx "street") = true) (d : Nat) : sp_streets b d x = x := by
  cases d with
  | zero => rfl
  | succ d => exact if_neg h
theorem sp_gardens_stop {b : Nat → Int32} {x : FN} (h : ¬ sp_isWord b x.1 (tx "garden") = true) (d : Nat) : sp_gardens b d x = x := by
  cases d with
  | zero => rfl
  | succ d => exact if_neg h
theorem sp_carts_stop {b : Nat → Int32} {x : FN} (h : ¬ (x.1 17 = 0 ∧ ¬ x.1 15 = 0)) (d : Nat) : sp_carts b d x = x := by
  cases d with
  | zero => rfl
  | succ d => exact if_neg h
theorem sp_isWord_live {b F : Nat → Int32} {t : List Nat} (h : sp_isWord b F t = true) : F 17 = 0 := (of_decide_eq_true h).1
theorem sp_streets_go {b : Nat → Int32} {x : FN} {e : Nat} (h : sp_isWord b x.1 (tx "street") = true) (he : 1 ≤ e) : sp_streets b e x = sp_streets b (e - 1) (sp_street b x) := by
  obtain ⟨d, rfl⟩ : ∃ d, e = d + 1 := ⟨e - 1, by omega⟩
  exact if_pos h
theorem sp_gardens_go {b : Nat → Int32} {x : FN} {e : Nat} (h : sp_isWord b x.1 (tx "garden") = true) (he : 1 ≤ e) : sp_gardens b e x = sp_gardens b (e - 1) (sp_garden b x) := by
  obtain ⟨d, rfl⟩ : ∃ d, e = d + 1 := ⟨e - 1, by omega⟩
  exact if_pos h
theorem sp_carts_go {b : Nat → Int32} {x : FN} {e : Nat} (h : x.1 17 = 0 ∧ ¬ x.1 15 = 0) (he : 1 ≤ e) : sp_carts b e x = sp_carts b (e - 1) (sp_cart b x) := by
  obtain ⟨d, rfl⟩ : ∃ d, e = d + 1 := ⟨e - 1, by omega⟩
  exact if_pos h
theorem mes1 {c e l : Nat} (h1 : l - c ≤ e) (h2 : c < l) : 1 ≤ e := by omega
theorem mes2 {c d e l : Nat} (h1 : l - c ≤ e) (h2 : c < l) (h3 : d = c + 1) : l - d ≤ e - 1 := by omega
theorem sp_streets_m {b : Nat → Int32} {x : FN} {e : Nat} (hk : Nok x.2) (hl : x.1 17 = 0) (hm : x.1 17 = 0 → 9 - cn (x.2 6) ≤ e) : 1 ≤ e ∧ ((sp_street b x).1 17 = 0 → 9 - cn ((sp_street b x).2 6) ≤ e - 1) := by
  refine ⟨mes1 (hm hl) hk.1.2, fun q => ?_⟩
  dsimp only [sp_street] at q ⊢
  exact mes2 (hm hl) hk.1.2 ((Nok.street hk).2 q)
theorem sp_gardens_m {b : Nat → Int32} {x : FN} {e : Nat} (hk : Nok x.2) (hl : x.1 17 = 0) (hm : x.1 17 = 0 → 7 - cn (x.2 7) ≤ e) : 1 ≤ e ∧ ((sp_garden b x).1 17 = 0 → 7 - cn ((sp_garden b x).2 7) ≤ e - 1) := by
  refine ⟨mes1 (hm hl) hk.2.1.2, fun q => ?_⟩
  dsimp only [sp_garden] at q ⊢
  exact mes2 (hm hl) hk.2.1.2 ((Nok.garden hk).2 q)
theorem sp_carts_m {b : Nat → Int32} {x : FN} {e : Nat} (hk : Nok x.2) (hl : x.1 17 = 0) (hm : x.1 17 = 0 → 7 - cn (x.2 8) ≤ e) : 1 ≤ e ∧ ((sp_cart b x).1 17 = 0 → 7 - cn ((sp_cart b x).2 8) ≤ e - 1) := by
  refine ⟨mes1 (hm hl) hk.2.2.2, fun q => ?_⟩
  dsimp only [sp_cart] at q ⊢
  exact mes2 (hm hl) hk.2.2.2 ((Nok.cart hk).2 q)
theorem Pok.streetx {x : FN} (h : Pok x.1) (b : Nat → Int32) : Pok (sp_street b x).1 := by dsimp only [sp_street]; exact h.street _ _
theorem Pok.gardenx {x : FN} (h : Pok x.1) (b : Nat → Int32) : Pok (sp_garden b x).1 := by dsimp only [sp_garden]; exact h.garden _ _
theorem Pok.cartx {x : FN} (h : Pok x.1) (b : Nat → Int32) : Pok (sp_cart b x).1 := by dsimp only [sp_cart]; exact h.cart _ _
theorem Nok.streetx {x : FN} (h : Nok x.2) (b : Nat → Int32) : Nok (sp_street b x).2 := by dsimp only [sp_street]; exact h.street.1
theorem Nok.gardenx {x : FN} (h : Nok x.2) (b : Nat → Int32) : Nok (sp_garden b x).2 := by dsimp only [sp_garden]; exact h.garden.1
theorem Nok.cartx {x : FN} (h : Nok x.2) (b : Nat → Int32) : Nok (sp_cart b x).2 := by dsimp only [sp_cart]; exact h.cart.1
