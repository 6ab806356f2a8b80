/-! ===== the reference (class 6 of xcl): its numbers F, its row n, its other arrays B; A: where the arrays lie ===== -/
def mArr (k : Nat) : Bool := match k with | 0 => true | 1 => true | 2 => true | 3 => true | 4 => true | 5 => true | 9 => true | 22 => true | 23 => true | 24 => true | 25 => true | 26 => true | 30 => true | 31 => true | _ => false
def mK (k : Nat) : Nat := match k with | 5 => 4 | _ => 0
def mL (k : Nat) : Nat := match k with | 0 => 212 | 1 => 212 | 2 => 212 | 3 => 1696 | 4 => 424 | 5 => 2 | 9 => 700 | 22 => 30 | 23 => 30 | 24 => 30 | 25 => 30 | 26 => 30 | 30 => 300 | 31 => 8 | _ => 0
def mV (A : Nat → Nat) (F : Nat → Int32) : Nat → Value := fun k => match k with | 0 => .ref (A 0) | 1 => .ref (A 1) | 2 => .ref (A 2) | 3 => .ref (A 3) | 4 => .ref (A 4) | 5 => .ref (A 5) | 9 => .ref (A 9) | 22 => .ref (A 22) | 23 => .ref (A 23) | 24 => .ref (A 24) | 25 => .ref (A 25) | 26 => .ref (A 26) | 30 => .ref (A 30) | 31 => .ref (A 31) | k => .int (F k)
def mB (n : Nat → Int32) (B : Nat → Nat → Int32) : Nat → Nat → Int32 := fun k => match k with | 0 => n | k => B k
/-- the reference lies at m; all else is as in h0 -/
def MW (m : Nat) (A : Nat → Nat) (F n : Nat → Int32) (B : Nat → Nat → Int32) (h0 h : xAH) : Prop :=
  h m = some (xob 6 (mV A F)) ∧ (∀ k, mArr k = true → h (A k) = some (xar (mK k) (mL k) (mB n B k))) ∧ (∀ i j, mArr i = true → mArr j = true → A i = A j → i = j) ∧ ∀ q, q ≠ m → (∀ k, mArr k = true → q ≠ A k) → h q = h0 q
theorem MW.nameF {m : Nat} {A : Nat → Nat} {F n : Nat → Int32} {B : Nat → Nat → Int32} {h0 h : xAH} (hM : MW m A F n B h0 h) : ∃ F2, F2 = F ∧ MW m A F2 n B h0 h := ⟨F, rfl, hM⟩
theorem MW.nameN {m : Nat} {A : Nat → Nat} {F n : Nat → Int32} {B : Nat → Nat → Int32} {h0 h : xAH} (hM : MW m A F n B h0 h) : ∃ n2, n2 = n ∧ MW m A F n2 B h0 h := ⟨n, rfl, hM⟩
theorem MW.nameB {m : Nat} {A : Nat → Nat} {F n : Nat → Int32} {B : Nat → Nat → Int32} {h0 h : xAH} (hM : MW m A F n B h0 h) : ∃ B2, B2 = B ∧ MW m A F n B2 h0 h := ⟨B, rfl, hM⟩
theorem mV_up {A : Nat → Nat} {F : Nat → Int32} {k : Nat} {v : Int32} (hk : mArr k = false) (hk2 : k < 33) : updV (mV A F) k (.int v) = mV A (va_up F k v) := by
  funext j
  unfold updV va_up
  by_cases e : j = k
  · subst e
    rw [if_pos rfl]
    unfold mArr at hk
    unfold mV
    split at hk <;> first | cases hk | skip
    simp only [if_true]
  · rw [if_neg e]
    unfold mV
    split <;> first | rfl | simp [e]
section XM
variable {G : xG} {E : xE} {y : MethodName} {cc : ByteArray} {nL : Nat} {ret : Option FieldType} {hh : xH_} {lv mc ms : Nat} {h h0 : xAH} {pc : Nat} {L : List (Nat × Value)} {st : List Value}
variable {m : Nat} {A : Nat → Nat} {F n : Nat → Int32} {B : Nat → Nat → Int32}
theorem m_getI (C : xC G E y cc nL ret hh lv) {index k : Nat} (d : decode cc pc = .ok (.getfield index, 3)) (hf : xFl y.cls index 6 k) (hM : MW m A F n B h0 h) (hv : mV A F k = .int (F k)) (kk : xW G E nL mc ms h (pc + 3) L (.int (F k) :: st)) : xW G E nL mc ms h pc L (.ref m :: st) := x_getf C d hf (Or.inl hM.1) hv kk
theorem m_getA (C : xC G E y cc nL ret hh lv) {index k : Nat} (d : decode cc pc = .ok (.getfield index, 3)) (hf : xFl y.cls index 6 k) (hM : MW m A F n B h0 h) (hv : mV A F k = .ref (A k)) (kk : xW G E nL mc ms h (pc + 3) L (.ref (A k) :: st)) : xW G E nL mc ms h pc L (.ref m :: st) := x_getf C d hf (Or.inl hM.1) hv kk
theorem m_getN (C : xC G E y cc nL ret hh lv) {index : Nat} (d : decode cc pc = .ok (.getfield index, 3)) (hf : xFl y.cls index 6 0) (hM : MW m A F n B h0 h) (kk : xW G E nL mc ms h (pc + 3) L (.ref (A 0) :: st)) : xW G E nL mc ms h pc L (.ref m :: st) := x_getf C d hf (Or.inl hM.1) rfl kk
theorem MW.put (hM : MW m A F n B h0 h) {F2 : Nat → Int32} : MW m A F2 n B h0 (xset h m (xob 6 (mV A F2))) := by
  obtain ⟨h1, h2, h3, h4⟩ := hM
  have hne : ∀ k, mArr k = true → A k ≠ m := fun k hk e => by
    have := h2 k hk
    rw [e, h1] at this
    cases this
  exact ⟨xset_self _ _ _, fun k hk => (xset_ne (hne k hk)).trans (h2 k hk), h3, fun q hq hq2 => (xset_ne hq).trans (h4 q hq hq2)⟩
theorem m_putI (C : xC G E y cc nL ret hh lv) {index k : Nat} {v : Int32} (d : decode cc pc = .ok (.putfield index, 3)) (hf : xFl y.cls index 6 k) (hM : MW m A F n B h0 h) (hk : mArr k = false) (hfin : (TX7 k).2.2.2 = false) (hfit : narrow (tyX7 k) (.int v) = .int v ∧ fits (tyX7 k) (.int v) = true) (kk : ∀ h2, MW m A (va_up F k v) n B h0 h2 → xW G E nL mc ms h2 (pc + 3) L st) : xW G E nL mc ms h pc L (.int v :: .ref m :: st) := by
  have hk2 : k < 33 := by
    obtain ⟨Cn, T, N, ref, hcl, hk, -⟩ := hf
    have : xcl[6]? = some (RX7, TX7, 33) := rfl
    cases hcl.symm.trans this
    exact hk
  refine x_putf C d hf rfl cfX7 hM.1 (Or.inl hfin) hfit.1 hfit.2 ?_
  rw [mV_up hk hk2]
  exact kk _ hM.put
theorem m_ld (C : xC G E y cc nL ret hh lv) {k j : Nat} {i : Int32} (d : decode cc pc = .ok (.iaload, 1)) (hM : MW m A F n B h0 h) (hk : (mArr k && (mK k == 0) && (k != 0)) = true) (hi : i = nI j) (hj : j < mL k) (kk : xW G E nL mc ms h (pc + 1) L (.int (B k j) :: st)) : xW G E nL mc ms h pc L (.int i :: .ref (A k) :: st) := by
  simp only [Bool.and_eq_true, beq_iff_eq, bne_iff_ne] at hk
  have hL : mL k < 2 ^ 31 := by unfold mL; split <;> decide
  have h1 := hM.2.1 k hk.1.1
  rw [hk.1.2] at h1
  have e : mB n B k = B k := by unfold mB; split <;> simp_all
  rw [e] at h1
  subst hi
  exact x_iald C d rfl (Or.inl h1) (vp_in_nI hj hL) (v := B k j) (congrArg _ (nI_clamp (by omega))) kk
theorem m_ldN (C : xC G E y cc nL ret hh lv) {j : Nat} {i : Int32} (d : decode cc pc = .ok (.iaload, 1)) (hM : MW m A F n B h0 h) (hi : i = nI j) (hj : j < 212) (kk : xW G E nL mc ms h (pc + 1) L (.int (n j) :: st)) : xW G E nL mc ms h pc L (.int i :: .ref (A 0) :: st) := by
  subst hi
  exact x_iald C d rfl (Or.inl (hM.2.1 0 rfl)) (vp_in_nI hj (by decide)) (v := n j) (congrArg _ (nI_clamp (by omega))) kk
theorem m_ldZ (C : xC G E y cc nL ret hh lv) {j : Nat} {i : Int32} (d : decode cc pc = .ok (.baload, 1)) (hM : MW m A F n B h0 h) (hi : i = nI j) (hj : j < 2) (kk : xW G E nL mc ms h (pc + 1) L (.int (B 5 j) :: st)) : xW G E nL mc ms h pc L (.int i :: .ref (A 5) :: st) := by
  subst hi
  exact x_zald C d rfl (Or.inl (hM.2.1 5 rfl)) (vp_in_nI hj (by decide)) (v := B 5 j) (congrArg _ (nI_clamp (by omega))) kk
theorem MW.arr (hM : MW m A F n B h0 h) {k : Nat} (hk : mArr k = true) {n2 : Nat → Int32} {B2 : Nat → Nat → Int32} (he : ∀ j, j ≠ k → mB n2 B2 j = mB n B j) : MW m A F n2 B2 h0 (xset h (A k) (xar (mK k) (mL k) (mB n2 B2 k))) := by
  obtain ⟨h1, h2, h3, h4⟩ := hM
  have hne : m ≠ A k := fun e => by
    have := h2 k hk
    rw [← e, h1] at this
    cases this
  refine ⟨(xset_ne hne).trans h1, fun j hj => ?_, h3, fun q hq hq2 => (xset_ne (hq2 k hk)).trans (h4 q hq hq2)⟩
  by_cases e : j = k
  · rw [e]; exact xset_self _ _ _
  · rw [xset_ne (fun q => e (h3 j k hj hk q)), h2 j hj, he j e]
theorem m_stN (C : xC G E y cc nL ret hh lv) {j : Nat} {i x : Int32} (d : decode cc pc = .ok (.iastore, 1)) (hM : MW m A F n B h0 h) (hi : i = nI j) (hj : j < 212) (kk : ∀ h2, MW m A F (va_up n j x) B h0 h2 → xW G E nL mc ms h2 (pc + 1) L st) : xW G E nL mc ms h pc L (.int x :: .int i :: .ref (A 0) :: st) := by
  subst hi
  refine x_iast C d rfl (hM.2.1 0 rfl) (vp_in_nI hj (by decide)) ?_
  rw [nI_clamp (show j < 2 ^ 31 by omega)]
  exact kk _ (hM.arr (k := 0) rfl (fun q hq => by unfold mB; split <;> simp_all))
theorem mB_up {k j : Nat} {x : Int32} (hk : k ≠ 0) : mB n (va_up B k (va_up (B k) j x)) k = va_up (mB n B k) j x := by
  unfold mB; split <;> simp_all [va_up]
theorem mB_ne {k q : Nat} {f : Nat → Int32} (hk : k ≠ 0) (hq : q ≠ k) : mB n (va_up B k f) q = mB n B q := by
  unfold mB; split <;> simp_all [va_up]
theorem m_st (C : xC G E y cc nL ret hh lv) {k j : Nat} {i x : Int32} (d : decode cc pc = .ok (.iastore, 1)) (hM : MW m A F n B h0 h) (hk : (mArr k && (mK k == 0) && (k != 0)) = true) (hi : i = nI j) (hj : j < mL k) (kk : ∀ h2, MW m A F n (va_up B k (va_up (B k) j x)) h0 h2 → xW G E nL mc ms h2 (pc + 1) L st) : xW G E nL mc ms h pc L (.int x :: .int i :: .ref (A k) :: st) := by
  simp only [Bool.and_eq_true, beq_iff_eq, bne_iff_ne] at hk
  have hL : mL k < 2 ^ 31 := by unfold mL; split <;> decide
  have h1 := hM.2.1 k hk.1.1
  have h9 := h1
  rw [hk.1.2] at h1
  subst hi
  refine x_iast C d rfl h1 (vp_in_nI hj hL) ?_
  rw [nI_clamp (show j < 2 ^ 31 by omega)]
  have := hM.arr hk.1.1 (n2 := n) (B2 := va_up B k (va_up (B k) j x)) (fun q hq => mB_ne hk.2 hq)
  rw [mB_up hk.2, hk.1.2] at this
  exact kk _ this
theorem m_stZ (C : xC G E y cc nL ret hh lv) {j : Nat} {i x : Int32} (d : decode cc pc = .ok (.bastore, 1)) (hM : MW m A F n B h0 h) (hi : i = nI j) (hj : j < 2) (kk : ∀ h2, MW m A F n (va_up B 5 (va_up (B 5) j (vp_nar .boolean x))) h0 h2 → xW G E nL mc ms h2 (pc + 1) L st) : xW G E nL mc ms h pc L (.int x :: .int i :: .ref (A 5) :: st) := by
  subst hi
  refine x_zast C d rfl (hM.2.1 5 rfl) (vp_in_nI hj (by decide)) ?_
  rw [nI_clamp (show j < 2 ^ 31 by omega)]
  have := hM.arr (k := 5) rfl (n2 := n) (B2 := va_up B 5 (va_up (B 5) j (vp_nar .boolean x))) (fun q hq => mB_ne (by decide) hq)
  rw [mB_up (by decide)] at this
  exact kk _ this
end XM
