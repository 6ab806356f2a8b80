/-! ===== the night keeps what holds of the row ===== -/
theorem lt.ge {x : Int32} {b : Nat} (h : lt x b) (hb : b ≤ 2 ^ 31) : 0 ≤ x := by rw [h.1]; exact nI_pos' (by have := h.2; omega)
theorem imin_nI {a b : Nat} (ha : a < 2 ^ 31) (hb : b < 2 ^ 31) : imin (nI a) (nI b) = nI (min a b) := by
  unfold imin
  by_cases h : b < a
  · rw [if_pos (nI_lt h ha), Nat.min_eq_right (by omega)]
  · rw [if_neg (nI_nlt (by omega) hb), Nat.min_eq_left (by omega)]
theorem imax0_nI {a : Nat} (ha : a < 2 ^ 31) : imax 0 (nI a) = nI a := by
  unfold imax
  by_cases h : 0 < a
  · rw [if_pos (by have := nI_lt h ha; rwa [nI_0] at this)]
  · have e : a = 0 := by omega
    subst e
    rw [nI_0]; rfl
theorem imax0_neg {x : Int32} (h : x < 0) : imax 0 x = 0 := by
  unfold imax
  rw [if_neg]
  intro q
  rw [Int32.lt_iff_toInt_lt] at h q
  omega
theorem pk_sub_add_aux {a b r : Nat} (h : r ≤ b + a) : nI b + (nI a - nI (b + a - r)) = nI r := by
  rw [Int32.sub_eq_add_neg, ← Int32.add_assoc, nI_add, ← Int32.sub_eq_add_neg, pk_sub (by omega)]
  congr 1
  omega
theorem gather_bins {a b r : Nat} (ha : a < 2 ^ 29) (hb : b < 2 ^ 29) (hr : r < 2 ^ 29) : nI b + (nI a - imax 0 (nI b + nI a - nI r)) = nI (min (b + a) r) := by
  rw [nI_add]
  by_cases h : r ≤ b + a
  · rw [pk_sub h, imax0_nI (by omega), pk_sub_add_aux]
    · rw [Nat.min_eq_right h]
    · exact h
  · rw [imax0_neg (pk_sneg (by omega) (by omega)), Int32.sub_zero, nI_add, Nat.min_eq_left (by omega)]
section
variable {n : Nat → Int32} {S Gn Cn T : Nat}
theorem Ginv.upS (h : Ginv n S Gn Cn T) {s : Nat} (hs : s < S) (w : Nat) (hw : 3 ≤ w) (hw9 : w < 9) {v : Int32} (hv : stOK w v) : Ginv (va_up n (16 + 9 * s + w) v) S Gn Cn T := by
  have hS8 := h.S8
  have hG6 := h.G6
  have hC6 := h.C6
  refine h.up ⟨?_, ?_, ?_, ?_, ?_, ?_, ?_, ?_, ?_, ?_⟩ ?_
  · omega
  · omega
  · omega
  · omega
  · omega
  · omega
  · intro s2 w2 hs2 hw2 e
    have e2 : w2 = w := by omega
    subst e2; exact hv
  · intro s2 w2 hs2 hw2 e; exfalso; omega
  · intro s2 w2 hs2 hw2 e; exfalso; omega
  · intro s2 w2 hs2 hw2 e; exfalso; omega
  · rintro (⟨s2, w2, h1, h2, h3⟩ | ⟨s2, w2, h1, h2, h3⟩) <;> omega
theorem Ginv.upC (h : Ginv n S Gn Cn T) {s : Nat} (hs : s < Cn) (w : Nat) (hw9 : w < 5) {v : Int32} (hv : ctOK S Gn w v) : Ginv (va_up n (142 + 5 * s + w) v) S Gn Cn T := by
  have hS8 := h.S8
  have hG6 := h.G6
  have hC6 := h.C6
  refine h.up ⟨?_, ?_, ?_, ?_, ?_, ?_, ?_, ?_, ?_, ?_⟩ ?_
  · omega
  · omega
  · omega
  · omega
  · omega
  · omega
  · intro s2 w2 hs2 hw2 e; exfalso; omega
  · intro s2 w2 hs2 hw2 e; exfalso; omega
  · intro s2 w2 hs2 hw2 e
    have e2 : w2 = w := by omega
    subst e2; exact hv
  · intro s2 w2 hs2 hw2 e; exfalso; omega
  · rintro (⟨s2, w2, h1, h2, h3⟩ | ⟨s2, w2, h1, h2, h3⟩) <;> omega
theorem Ginv.upL (h : Ginv n S Gn Cn T) {s : Nat} (hs : s < 10) (w : Nat) (hw9 : w < 4) {v : Int32} (hv : lgOK T w v) : Ginv (va_up n (172 + 4 * s + w) v) S Gn Cn T := by
  have hS8 := h.S8
  have hG6 := h.G6
  have hC6 := h.C6
  refine h.up ⟨?_, ?_, ?_, ?_, ?_, ?_, ?_, ?_, ?_, ?_⟩ ?_
  · omega
  · omega
  · omega
  · omega
  · omega
  · omega
  · intro s2 w2 hs2 hw2 e; exfalso; omega
  · intro s2 w2 hs2 hw2 e; exfalso; omega
  · intro s2 w2 hs2 hw2 e; exfalso; omega
  · intro s2 w2 hs2 hw2 e
    have e2 : w2 = w := by omega
    subst e2; exact hv
  · rintro (⟨s2, w2, h1, h2, h3⟩ | ⟨s2, w2, h1, h2, h3⟩) <;> omega
theorem Ginv.up0 (h : Ginv n S Gn Cn T) {j : Nat} {v : Int32} (hv : (j = 4 ∧ lt v 4) ∨ (j = 5 ∧ lt v T) ∨ (j = 15 ∧ lt v 11)) : Ginv (va_up n j v) S Gn Cn T := by
  refine h.up ⟨?_, ?_, ?_, ?_, ?_, ?_, ?_, ?_, ?_, ?_⟩ ?_
  · rintro rfl; rcases hv with ⟨_, hv⟩ | ⟨hv, _⟩ | ⟨hv, _⟩ <;> first | exact hv | cases hv
  · rintro rfl; rcases hv with ⟨hv, _⟩ | ⟨_, hv⟩ | ⟨hv, _⟩ <;> first | exact hv | cases hv
  · omega
  · omega
  · omega
  · rintro rfl; rcases hv with ⟨hv, _⟩ | ⟨hv, _⟩ | ⟨_, hv⟩ <;> first | exact hv | cases hv
  · intro s2 w2 hs2 hw2 e; exfalso; omega
  · intro s2 w2 hs2 hw2 e; exfalso; omega
  · intro s2 w2 hs2 hw2 e; exfalso; omega
  · intro s2 w2 hs2 hw2 e; exfalso; omega
  · rintro (⟨s2, w2, h1, h2, h3⟩ | ⟨s2, w2, h1, h2, h3⟩) <;> omega
theorem Ginv.earn (h : Ginv n S Gn Cn T) (x : Int32) : Ginv (sp_earn n x) S Gn Cn T := by
  unfold sp_earn
  exact (h.free _ (Or.inl (by omega))).free _ (Or.inl (by omega))
theorem Ginv.gather (h : Ginv n S Gn Cn T) {s : Nat} (hs : s < S) : Ginv (sp_gather n s) S Gn Cn T := by
  have hS8 := h.S8
  unfold sp_gather
  have hb := h.bins hs
  have hr := h.room hs
  have hh := h.hh hs
  have hv : lt (n (16 + 9 * s + 5) + (n (16 + 9 * s + 3) - imax 0 (n (16 + 9 * s + 5) + n (16 + 9 * s + 3) - n (16 + 9 * s + 4)))) 201 := by
    rw [hb.1, hr.1, hh.1, gather_bins (by have := hh.2; omega) (by have := hb.2; omega) (by have := hr.2; omega)]
    exact lt_nI (by have := hr.2; omega) (by decide)
  have h1 := h.upS hs 5 (by decide) (by decide) hv
  have h2 := h1.free ((va_up n (16 + 9 * s + 5) (n (16 + 9 * s + 5) + (n (16 + 9 * s + 3) - imax 0 (n (16 + 9 * s + 5) + n (16 + 9 * s + 3) - n (16 + 9 * s + 4))))) (16 + 9 * s + 6) + imax 0 (n (16 + 9 * s + 5) + n (16 + 9 * s + 3) - n (16 + 9 * s + 4))) (j := 16 + 9 * s + 6) (Or.inr (Or.inl ⟨s, 6, by omega, by decide, rfl⟩))
  exact (h2.free _ (Or.inl (by omega))).upS hs 8 (by decide) (by decide) (v := 0) (lt_nI (a := 0) (by decide) (by decide))
theorem Ginv.gathers (h : Ginv n S Gn Cn T) {k : Nat} (hk : k ≤ S) : Ginv (sp_gathers n k) S Gn Cn T := by
  induction k with
  | zero => exact h
  | succ k ih => exact (ih (by omega)).gather (by omega)
theorem Ginv.tick (h : Ginv n S Gn Cn T) (hT : T < 20000) : Ginv (va_up n 5 (n 5 + 1)) S Gn Cn (T + 1) := by
  have h5 := h.t
  refine (h.mono (Nat.le_succ T) hT).up0 (Or.inr (Or.inl ⟨rfl, ?_⟩))
  rw [h5.1, nI_1]
  exact lt_nI (by have := h5.2; omega) (by omega)
theorem Ginv.begin (h : Ginv n S Gn Cn T) (hT : T < 20000) : Ginv (sp_begin n S) S Gn Cn (T + 1) := (h.tick hT).gathers (Nat.le_refl _)
theorem Ginv.shift (h : Ginv n S Gn Cn T) {k : Nat} (hk : k ≤ 208) : Ginv (sp_shift n k) S Gn Cn T := by
  have hS8 := h.S8
  have hG6 := h.G6
  have hC6 := h.C6
  have e : ∀ j, j < 172 → sp_shift n k j = n j := fun j hj => if_neg (by omega)
  refine ⟨h.S0, h.S8, h.G0, h.G6, h.C0, h.C6, h.T0, fun j => ?_, ?_, ?_, ?_⟩
  · unfold sp_shift
    by_cases hj : 172 ≤ j ∧ j < k
    · rw [if_pos hj]
      refine ⟨?_, ?_, ?_, ?_, ?_, ?_, ?_, ?_, ?_, ?_⟩
      · omega
      · omega
      · omega
      · omega
      · omega
      · omega
      · intro s w hs hw e; exfalso; omega
      · intro s w hs hw e; exfalso; omega
      · intro s w hs hw e; exfalso; omega
      · intro s w hs hw e; exact (h.cell (j + 4)).lg (s + 1) w (by omega) hw (by omega)
    · rw [if_neg hj]; exact h.cell j
  · intro s t hs ht; rw [e _ (by omega), e _ (by omega), e _ (by omega), e _ (by omega)]; exact h.dS s t hs ht
  · intro s t hs ht; rw [e _ (by omega), e _ (by omega), e _ (by omega), e _ (by omega)]; exact h.dG s t hs ht
  · intro s t hs ht; rw [e _ (by omega), e _ (by omega), e _ (by omega), e _ (by omega)]; exact h.dX s t hs ht
theorem Ginv.log0 (h : Ginv n S Gn Cn T) : Ginv (sp_log0 n) S Gn Cn T ∧ cn (sp_log0 n 15) < 10 := by
  unfold sp_log0
  have hq := h.q
  by_cases e : cn (n 15) = 10
  · rw [if_pos e, va_eq, cn_nI (by decide)]
    exact ⟨(h.shift (Nat.le_refl _)).up0 (Or.inr (Or.inr ⟨rfl, lt_nI (by decide) (by decide)⟩)), by decide⟩
  · rw [if_neg e]
    exact ⟨h, by have := hq.2; omega⟩
theorem Ginv.log (h : Ginv n S Gn Cn T) {c : Nat} {load late : Int32} (hc : c < 6) (hl : lt load 61) (ha : lt late 2) : Ginv (sp_log n c load late) S Gn Cn T := by
  obtain ⟨h1, hq⟩ := h.log0
  have ht := h1.t
  have hq' := h1.q
  unfold sp_log
  generalize sp_log0 n = n1 at *
  have g1 := h1.upL hq 0 (by decide) (v := n1 5) ht
  have g2 := g1.upL hq 1 (by decide) (v := nI c) (lt_nI hc (by decide))
  have g3 := g2.upL hq 2 (by decide) (v := load) hl
  have g4 := g3.upL hq 3 (by decide) (v := late) ha
  have e : ∀ x0 x1 x2 x3 : Int32, va_up (va_up (va_up (va_up n1 (172 + 4 * cn (n1 15) + 0) x0) (172 + 4 * cn (n1 15) + 1) x1) (172 + 4 * cn (n1 15) + 2) x2) (172 + 4 * cn (n1 15) + 3) x3 15 = n1 15 := fun _ _ _ _ => by
    rw [va_ne (by omega), va_ne (by omega), va_ne (by omega), va_ne (by omega)]
  refine g4.up0 (Or.inr (Or.inr ⟨rfl, ?_⟩))
  show lt (va_up (va_up (va_up (va_up n1 (172 + 4 * cn (n1 15) + 0) (n1 5)) (172 + 4 * cn (n1 15) + 1) (nI c)) (172 + 4 * cn (n1 15) + 2) load) (172 + 4 * cn (n1 15) + 3) late 15 + 1) 11
  rw [e, hq'.1, nI_1]
  exact lt_nI (by omega) (by decide)
theorem Ginv.load (h : Ginv n S Gn Cn T) {c : Nat} (hc : c < Cn) : lt (sp_load n c) 61 := by
  unfold sp_load
  by_cases e : 0 < n (142 + 5 * c + 4)
  · rw [if_pos e]
    have h1 := h.cap hc
    have h2 := h.bins (h.fr hc).2
    rw [h1.1, h2.1, imin_nI (by have := h1.2; omega) (by have := h2.2; omega)]
    exact lt_nI (by have := h1.2; omega) (by decide)
  · rw [if_neg e]
    exact lt_nI (a := 0) (by decide) (by decide)
theorem lt_bI (b : Bool) : lt (bI b) 2 := by
  cases b
  · exact lt_nI (a := 0) (by decide) (by decide)
  · exact lt_nI (a := 1) (by decide) (by decide)
theorem Ginv.smellN (h : Ginv n S Gn Cn T) (f : Nat) (u : Int32) {k : Nat} (hk : k ≤ S) : Ginv (sp_smellN n f u k) S Gn Cn T := by
  have hS8 := h.S8
  induction k with
  | zero => exact h
  | succ k ih =>
    have := ih (by omega)
    unfold sp_smellN sp_smell1
    by_cases e : sp_smells (sp_smellN n f u k) f u k = true
    · rw [if_pos e]
      exact this.free _ (Or.inr (Or.inl ⟨k, 7, by omega, by decide, rfl⟩))
    · rw [if_neg e]; exact this
theorem nI_negadd {a b : Nat} (h : b ≤ a) : nI a + -nI b = nI (a - b) := by
  rw [← Int32.sub_eq_add_neg, pk_sub h]
theorem Ginv.bins_sub {n : Nat → Int32} {S Gn Cn T : Nat} (h : Ginv n S Gn Cn T) {c : Nat} (hc : c < Cn) {load : Int32} (e : load = sp_load n c) (e0 : ¬ load = 0) : stOK 5 (n (16 + 9 * cn (n (142 + 5 * c + 2)) + 5) + -load) := by
  have hl := h.load hc
  have hb := h.bins (h.fr hc).2
  have hlb : cn (sp_load n c) ≤ cn (n (16 + 9 * cn (n (142 + 5 * c + 2)) + 5)) := by
    rw [e] at e0
    unfold sp_load at e0 hl ⊢
    by_cases e : 0 < n (142 + 5 * c + 4)
    · rw [if_pos e] at e0 hl ⊢
      have h1 := h.cap hc
      have h2 := h.bins (h.fr hc).2
      have e5 : imin (n (142 + 5 * c)) (n (16 + 9 * cn (n (142 + 5 * c + 2)) + 5)) = nI (min (cn (n (142 + 5 * c))) (cn (n (16 + 9 * cn (n (142 + 5 * c + 2)) + 5)))) := by
        rw [← imin_nI (by have := h1.2; omega) (by have := h2.2; omega), ← h1.1, ← h2.1]
      rw [e5, cn_nI (by have := h1.2; omega)]
      omega
    · rw [if_neg e] at e0
      exact absurd rfl e0
  show lt _ 201
  rw [e, hb.1, hl.1, nI_negadd hlb]
  exact lt_nI (by have := hb.2; omega) (by decide)
theorem Ginv.lates (h : Ginv n S Gn Cn T) (c : Nat) : Ginv (sp_lates n c) S Gn Cn T := by
  unfold sp_lates
  split
  · exact (h.earn _).free _ (Or.inl (by omega))
  · exact h
theorem Ginv.deliver (h : Ginv n S Gn Cn T) {c : Nat} (hc : c < Cn) : Ginv (sp_deliver n S c) S Gn Cn T := by
  have hS8 := h.S8
  have hG6 := h.G6
  have hC6 := h.C6
  unfold sp_deliver
  by_cases e0 : sp_load n c = 0
  · rw [if_pos e0]; exact h
  · rw [if_neg e0]
    have hl := h.load hc
    have hf := (h.fr hc).2
    have ht := (h.to hc).2
    have g1 := h.upS hf 5 (by decide) (by decide) (h.bins_sub hc rfl e0)
    have g2 := g1.upS hf 8 (by decide) (by decide) (v := 1) (lt_nI (a := 1) (by decide) (by decide))
    have fG : ∀ {m : Nat → Int32} (x : Int32), Ginv m S Gn Cn T → Ginv (va_up m (88 + 9 * cn (n (142 + 5 * c + 3)) + 4) x) S Gn Cn T := fun x hm => hm.free x (Or.inr (Or.inr ⟨_, 4, by omega, by decide, by decide, rfl⟩))
    have f0 : ∀ {m : Nat → Int32} (j : Nat) (x : Int32), 9 ≤ j ∧ j ≤ 14 → Ginv m S Gn Cn T → Ginv (va_up m j x) S Gn Cn T := fun j x hj hm => hm.free x (Or.inl (by omega))
    exact Ginv.smellN (Ginv.log (f0 12 _ (by decide) (f0 11 _ (by decide) (((fG _ g2).earn _).lates c))) (by omega) hl (lt_bI _)) _ _ (Nat.le_refl _)
theorem Ginv.delivers (h : Ginv n S Gn Cn T) {k : Nat} (hk : k ≤ Cn) : Ginv (sp_delivers n S k) S Gn Cn T := by
  induction k with
  | zero => exact h
  | succ k ih => exact (ih (by omega)).deliver (by omega)
theorem Ginv.bloom (h : Ginv n S Gn Cn T) {g : Nat} (hg : g < Gn) : Ginv (sp_bloom n g) S Gn Cn T := by
  have hG6 := h.G6
  unfold sp_bloom
  have f : ∀ {m : Nat → Int32} (w : Nat) (x : Int32), 4 ≤ w ∧ w < 9 → Ginv m S Gn Cn T → Ginv (va_up m (88 + 9 * g + w) x) S Gn Cn T := fun w x hw hm => hm.free x (Or.inr (Or.inr ⟨g, w, by omega, hw.1, hw.2, rfl⟩))
  exact f 7 _ (by decide) (f 4 _ (by decide) (f 6 _ (by decide) (f 5 _ (by decide) (f 4 _ (by decide) h))))
theorem Ginv.blooms (h : Ginv n S Gn Cn T) {k : Nat} (hk : k ≤ Gn) : Ginv (sp_blooms n k) S Gn Cn T := by
  induction k with
  | zero => exact h
  | succ k ih => exact (ih (by omega)).bloom (by omega)
theorem sp_best_lt {k j : Nat} (h : sp_best n k = some j) : j < k := by
  induction k with
  | zero => cases h
  | succ k ih =>
    unfold sp_best sp_best1 at h
    split at h
    · have := Option.some.inj h; omega
    · have := ih h; omega
theorem Ginv.zeroN (h : Ginv n S Gn Cn T) {k : Nat} (hk : k ≤ Gn) : Ginv (sp_zeroN n k) S Gn Cn T := by
  have hG6 := h.G6
  induction k with
  | zero => exact h
  | succ k ih => exact (ih (by omega)).free _ (Or.inr (Or.inr ⟨k, 6, by omega, by decide, by decide, rfl⟩))
theorem Ginv.prize (h : Ginv n S Gn Cn T) {w : Nat} (hw : w < Gn) (x y : Int32) : Ginv (sp_earn (va_up n (88 + 9 * w + 8) x) y) S Gn Cn T := by
  have hG6 := h.G6
  exact (h.free _ (Or.inr (Or.inr ⟨w, 8, by omega, by decide, by decide, rfl⟩))).earn _
theorem Ginv.awn (h : Ginv n S Gn Cn T) : Ginv (sp_awn n Gn) S Gn Cn T := by
  unfold sp_awn
  split
  · exact h
  · rename_i w e
    exact h.prize (sp_best_lt e) _ _
theorem sp_awn_S {w : Nat} (e : sp_best n Gn = some w) : sp_awn n Gn = sp_earn (va_up n (88 + 9 * w + 8) (n (88 + 9 * w + 8) + 1)) (-(va_up n (88 + 9 * w + 8) (n (88 + 9 * w + 8) + 1) 3)) := by
  unfold sp_awn; rw [e]
theorem sp_awn_N (e : sp_best n Gn = none) : sp_awn n Gn = n := by
  unfold sp_awn; rw [e]
theorem Ginv.award (h : Ginv n S Gn Cn T) : Ginv (sp_award n Gn) S Gn Cn T := h.awn.zeroN (Nat.le_refl _)
theorem oI_ne {j : Nat} (h : j < 2 ^ 31) : ¬ nI j = -1 := fun e => by
  have h2 := congrArg Int32.toInt e
  rw [nI_toInt h] at h2
  have h3 : Int32.toInt (-1) = -1 := by decide
  omega
theorem oI_none {k : Nat} (h : oI (sp_best n k) = -1) (hk : k ≤ 6) : sp_best n k = none := by
  cases e : sp_best n k with
  | none => rfl
  | some j =>
    rw [e] at h
    have := sp_best_lt e
    exact absurd h (oI_ne (by omega))
theorem sp_bv_0 {k : Nat} (h : oI (sp_best n k) = -1) (hk : k ≤ 6) : sp_bv n (sp_best n k) = 0 := by rw [oI_none h hk]; rfl
theorem oI_some {k : Nat} (h : ¬ oI (sp_best n k) = -1) : ∃ j, sp_best n k = some j ∧ j < k := by
  cases e : sp_best n k with
  | none => rw [e] at h; exact absurd rfl h
  | some j => exact ⟨j, rfl, sp_best_lt e⟩
theorem sp_best_T {k : Nat} {v : Int32} (hv : v = sp_bv n (sp_best n k)) (h : ¬ n (88 + 9 * k + 6) ≤ v) : oI (sp_best n (k + 1)) = nI k := by
  show oI (sp_best1 n (sp_best n k) k) = nI k
  unfold sp_best1
  rw [if_pos (by rw [← hv]; exact i_lt h)]
  rfl
theorem sp_best_F {k : Nat} {v : Int32} (hv : v = sp_bv n (sp_best n k)) (h : n (88 + 9 * k + 6) ≤ v) : oI (sp_best n (k + 1)) = oI (sp_best n k) := by
  show oI (sp_best1 n (sp_best n k) k) = _
  unfold sp_best1
  rw [if_neg (by rw [← hv]; exact i_nlt h)]
theorem Ginv.expire1 (h : Ginv n S Gn Cn T) {k : Nat} (hk : k < Cn) (h0 : 0 < n (142 + 5 * k + 4)) : Ginv (va_up n (142 + 5 * k + 4) (n (142 + 5 * k + 4) - 1)) S Gn Cn T := by
  have hl := h.left hk
  refine h.upC hk 4 (by decide) ?_
  have e : 0 < cn (n (142 + 5 * k + 4)) := by
    rw [hl.1, ← nI_0] at h0
    exact (nI_ltI (by decide) (by have := hl.2; omega)).mp h0
  show lt _ 31
  rw [hl.1]
  have e2 : cn (n (142 + 5 * k + 4)) = cn (n (142 + 5 * k + 4)) - 1 + 1 := by omega
  rw [e2, nI_pred]
  exact lt_nI (by have := hl.2; omega) (by decide)
theorem Ginv.expireN (h : Ginv n S Gn Cn T) {k : Nat} (hk : k ≤ Cn) : Ginv (sp_expireN n k) S Gn Cn T := by
  induction k with
  | zero => exact h
  | succ k ih =>
    have := ih (by omega)
    unfold sp_expireN sp_expire1
    split
    · rename_i e; exact this.expire1 (by omega) e
    · exact this
theorem Ginv.night4 (h : Ginv n S Gn Cn T) (hT : T < 20000) : Ginv (sp_night4 n S Gn Cn) S Gn Cn (T + 1) := (((h.begin hT).delivers (Nat.le_refl _)).blooms (Nat.le_refl _)).expireN (Nat.le_refl _)
theorem Ginv.night (h : Ginv n S Gn Cn T) (hT : T < 20000) : Ginv (sp_night n S Gn Cn) S Gn Cn (T + 1) := by
  have h4 := h.night4 hT
  unfold sp_night
  split
  · exact h4.award
  · exact h4
theorem Ginv.nights (h : Ginv n S Gn Cn T) {k : Nat} (hT : T + k ≤ 20000) : Ginv (sp_nights n S Gn Cn k) S Gn Cn (T + k) := by
  induction k with
  | zero => exact h
  | succ k ih => exact (ih (by omega)).night (by omega)
end
theorem sp_shift_0 (n : Nat → Int32) : sp_shift n 172 = n := by
  funext j; unfold sp_shift; rw [if_neg (by omega)]
theorem sp_shift_s (n : Nat → Int32) {k : Nat} (hk : 172 ≤ k) : sp_shift n (k + 1) = va_up (sp_shift n k) k (sp_shift n k (k + 4)) := by
  funext j
  by_cases e : j = k
  · subst e
    rw [va_eq]
    unfold sp_shift
    rw [if_pos (by omega), if_neg (by omega)]
  · rw [va_ne e]
    unfold sp_shift
    by_cases h : 172 ≤ j ∧ j < k
    · rw [if_pos h, if_pos (by omega)]
    · rw [if_neg h, if_neg (by omega)]
theorem va_uu {α : Type} (f : Nat → α) (k : Nat) (v w : α) : va_up (va_up f k v) k w = va_up f k w := by
  funext j; unfold va_up; by_cases h : j = k <;> simp [h]
theorem va_id {α : Type} (f : Nat → α) (k : Nat) : va_up f k (f k) = f := by
  funext j; unfold va_up; by_cases h : j = k
  · simp [h]
  · simp [h]
theorem cp_zero (B : Nat → Nat → Int32) (k : Nat) (f : Nat → Int32) (a : Nat) : va_up B k (sp_cp a f (B k) 0) = B := va_id B k
theorem cp_step (B : Nat → Nat → Int32) (q : Nat) (f g : Nat → Int32) (a k : Nat) (_ : Int32) : va_up (va_up B q (sp_cp a f g k)) q (va_up ((va_up B q (sp_cp a f g k)) q) (a + k) (f k)) = va_up B q (sp_cp a f g (k + 1)) := by
  rw [va_uu, va_eq]; rfl
