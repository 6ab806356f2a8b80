/-! ===== an array's places beyond its end don't matter ===== -/
theorem arr_ext {cA : ClassId} {N : Nat} {f g : Nat → Int32} (h : ∀ j, j < N → f j = g j) : vp_cell cA (N, .inl f) = vp_cell cA (N, .inl g) := by
  rw [vp_cell_i, vp_cell_i]
  unfold arrV
  congr 1
  apply congrArg
  funext j
  exact congrArg Value.int (h j.val j.isLt)
theorem x_ext {G : xG} {E : xE} {nL mc ms : Nat} {h : xAH} {pc : Nat} {L : List (Nat × Value)} {st : List Value} {a k N : Nat} {f g : Nat → Int32} (ha : h a = some (xar k N f)) (he : ∀ j, j < N → f j = g j) (kk : xW G E nL mc ms (xset h a (xar k N g)) pc L st) : xW G E nL mc ms h pc L st := by
  intro H locs cells slots ls hR hF hc hs hl
  refine kk H locs cells slots ls (fun q o hq => ?_) hF hc hs hl
  unfold xset at hq
  by_cases e : q = a
  · rw [if_pos e] at hq
    cases hq
    subst e
    have h1 := hR q _ ha
    refine ⟨h1.1, ?_⟩
    have h2 : H[q]? = some (vp_cell (G.2.1 k) (N, .inl f)) := h1.2
    show H[q]? = some (vp_cell (G.2.1 k) (N, .inl g))
    rw [h2, arr_ext he]
  · rw [if_neg e] at hq
    exact hR q o hq
theorem m_ext {G : xG} {E : xE} {nL mc ms : Nat} {h h0 : xAH} {pc : Nat} {L : List (Nat × Value)} {st : List Value} {m : Nat} {A : Nat → Nat} {F n : Nat → Int32} {B : Nat → Nat → Int32} (hM : MW m A F n B h0 h) {n2 : Nat → Int32} (he : ∀ j, j < 212 → n j = n2 j) (kk : ∀ h2, MW m A F n2 B h0 h2 → xW G E nL mc ms h2 pc L st) : xW G E nL mc ms h pc L st :=
  x_ext (hM.2.1 0 rfl) (g := n2) he (kk _ (hM.arr (k := 0) (n2 := n2) (B2 := B) rfl (fun q hq => by unfold mB; split <;> simp_all)))
