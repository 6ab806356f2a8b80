/-! ===== the reference: signing, cancelling, advancing ===== -/
theorem c_X7_cancelling_t {G : xG} {l : Launch} (hl : l.stackTraces = false) {m : Nat} {A : Nat → Nat} {F n : Nat → Int32} {B : Nat → Nat → Int32} {h0 h : xAH} (hM : MW m A F n B h0 h) {S Gn Cn T : Nat} (hI : Ginv n S Gn Cn T) (u : Nat) (hU : F 6 = nI u) (hu8 : u ≤ 8) (sc : Bool) (hsc : F 29 = bI sc) (h7 : F 7 = 0) (i : Nat) (hi : i < Cn) (hb : 0 < n (142 + 5 * i + 4)) : xM G l yX7_cancelling cX7_cancelling 3 (Option.some Jvm.ClassFile.FieldType.int) [] 3 0 0 [.ref m, .int (nI i)] h (fun r h2 => r = some (.int (n (142 + 5 * i + 4))) ∧ MW m A (sp_chF F u sc) (va_up n (142 + 5 * i + 4) (nI 0)) (sp_chB B n u sc) h0 h2) xNo := by
  refine xcode_start (by decide) (Nat.le_of_ble_eq_true rfl) hl ?_
  intro E hE B0
  subst hE
  have C := B0.1
  have hS8 := hI.S8; have hG6 := hI.G6; have hC6 := hI.C6; have hT := hI.T0
  show xW G E 3 0 0 h 0 [(0, .ref m), (1, .int (nI i))] []
  refine x_aload_n C dX7_cancelling_0 rfl ?_
  refine x_aload_n C dX7_cancelling_1 rfl ?_
  refine x_iload_n C dX7_cancelling_2 rfl ?_
  refine x_callV (mc' := 0) (ms' := 0) C dX7_cancelling_3 (c_X7_isCart hl hM hI (nI i)) mf_X7_isCart q3975 q3977 qs99 (Or.inl hM.1) rfl rfl rfl (Nat.le_of_ble_eq_true rfl) (by decide) rfl rfl (fun r h hP => ?_) (fun _ _ _ hX => False.elim hX)
  obtain ⟨rfl, hM⟩ := hP
  refine x_toi (nI 1) (bI_t (isIn_nI hi (by omega))) ?_
  refine x_iconst C (nI 1) dX7_cancelling_6 rfl ?_
  refine x_callV (mc' := 0) (ms' := 0) C dX7_cancelling_7 (c_X7_right_t hl hM (nI 1) h7) mf_X7_right q3901 q3903 qs87 (Or.inl hM.1) rfl rfl rfl (Nat.le_of_ble_eq_true rfl) (by decide) rfl rfl (fun r h hP => ?_) (fun _ _ _ hX => False.elim hX)
  obtain ⟨rfl, hM⟩ := hP
  refine x_if_eq C 26 dX7_cancelling_10 (by decide) (fun c_10 => ?_) (fun c_10 => ?_)
  · exact absurd c_10 (by decide)
  · skip
    have c_10 := (xn_eqF 1 0 c_10 (by omega) (by omega))
    refine x_aload_n C dX7_cancelling_13 rfl ?_
    refine x_aload_n C dX7_cancelling_14 rfl ?_
    refine x_iload_n C dX7_cancelling_15 rfl ?_
    refine x_callV (mc' := 0) (ms' := 0) C dX7_cancelling_16 (c_X7_isBound hl hM i (by omega)) mf_X7_isBound q3987 q3989 qs102 (Or.inl hM.1) rfl rfl rfl (Nat.le_of_ble_eq_true rfl) (by decide) rfl rfl (fun r h hP => ?_) (fun _ _ _ hX => False.elim hX)
    obtain ⟨rfl, hM⟩ := hP
    refine x_toi (nI 1) (bI_t hb) ?_
    refine x_iconst C (nI 2) dX7_cancelling_19 rfl ?_
    refine x_callV (mc' := 0) (ms' := 0) C dX7_cancelling_20 (c_X7_right_t hl hM (nI 2) h7) mf_X7_right q3901 q3903 qs87 (Or.inl hM.1) rfl rfl rfl (Nat.le_of_ble_eq_true rfl) (by decide) rfl rfl (fun r h hP => ?_) (fun _ _ _ hX => False.elim hX)
    obtain ⟨rfl, hM⟩ := hP
    refine x_if_ne C 28 dX7_cancelling_23 (by decide) (fun c_23 => ?_) (fun c_23 => ?_)
    · skip
      have c_23 := (xn_neT 1 0 c_23 (by omega) (by omega))
      refine x_aload_n C dX7_cancelling_28 rfl ?_
      refine x_callV (mc' := 0) (ms' := 0) C dX7_cancelling_29 (c_X7_changes hl hM u hU hu8 sc hsc) mf_X7_changes q3995 q3997 qs104 (Or.inl hM.1) rfl rfl rfl (Nat.le_of_ble_eq_true rfl) (by decide) rfl rfl (fun r h hP => ?_) (fun _ _ _ hX => False.elim hX)
      obtain ⟨rfl, hM⟩ := hP
      obtain ⟨F1, eF1, hM⟩ := MW.nameF hM
      obtain ⟨B2, eB2, hM⟩ := MW.nameB hM
      refine x_aload_n C dX7_cancelling_32 rfl ?_
      refine x_iload_n C dX7_cancelling_33 rfl ?_
      refine x_iconst C (nI 4) dX7_cancelling_34 rfl ?_
      refine x_callV (mc' := 0) (ms' := 0) C dX7_cancelling_35 (c_X7_ofC hl hM i 4 (by omega)) mf_X7_ofC q3991 q3993 qs103 (Or.inl hM.1) rfl rfl rfl (Nat.le_of_ble_eq_true rfl) (by decide) rfl rfl (fun r h hP => ?_) (fun _ _ _ hX => False.elim hX)
      obtain ⟨rfl, hM⟩ := hP
      refine x_istore_n C dX7_cancelling_38 (by decide) rfl ?_
      refine x_aload_n C dX7_cancelling_39 rfl ?_
      refine x_iload_n C dX7_cancelling_40 rfl ?_
      refine x_iconst C (nI 4) dX7_cancelling_41 rfl ?_
      refine x_iconst C (nI 0) dX7_cancelling_42 rfl ?_
      refine x_callV (mc' := 0) (ms' := 0) C dX7_cancelling_43 (c_X7_putC hl hM i 4 (nI 0) (by omega)) mf_X7_putC q3784 q3786 qs85 (Or.inl hM.1) rfl rfl rfl (Nat.le_of_ble_eq_true rfl) (by decide) rfl rfl (fun r h hP => ?_) (fun _ _ _ hX => False.elim hX)
      obtain ⟨rfl, hM⟩ := hP
      obtain ⟨n3, en3, hM⟩ := MW.nameN hM
      refine x_iload_n C dX7_cancelling_46 rfl ?_
      exact x_iret B0 dX7_cancelling_47 rfl (by have q_ := en3.symm; subst q_; have q_ := eB2.symm; subst q_; have q_ := eF1.symm; subst q_; exact ⟨rfl, hM⟩)
    · exact absurd c_23 (by decide)
theorem c_X7_cancelling_b {G : xG} {l : Launch} (hl : l.stackTraces = false) {m : Nat} {A : Nat → Nat} {F n : Nat → Int32} {B : Nat → Nat → Int32} {h0 h : xAH} (hM : MW m A F n B h0 h) {S Gn Cn T : Nat} (hI : Ginv n S Gn Cn T) (h7 : F 7 = 0) (i : Nat) (hi : i < Cn) (hb : ¬ 0 < n (142 + 5 * i + 4)) : xM G l yX7_cancelling cX7_cancelling 3 (Option.some Jvm.ClassFile.FieldType.int) [] 3 0 0 [.ref m, .int (nI i)] h (fun r h2 => r = some (.int (nI 0)) ∧ MW m A (va_up F 7 (nI 2)) n B h0 h2) xNo := by
  refine xcode_start (by decide) (Nat.le_of_ble_eq_true rfl) hl ?_
  intro E hE B0
  subst hE
  have C := B0.1
  have hS8 := hI.S8; have hG6 := hI.G6; have hC6 := hI.C6; have hT := hI.T0
  show xW G E 3 0 0 h 0 [(0, .ref m), (1, .int (nI i))] []
  refine x_aload_n C dX7_cancelling_0 rfl ?_
  refine x_aload_n C dX7_cancelling_1 rfl ?_
  refine x_iload_n C dX7_cancelling_2 rfl ?_
  refine x_callV (mc' := 0) (ms' := 0) C dX7_cancelling_3 (c_X7_isCart hl hM hI (nI i)) mf_X7_isCart q3975 q3977 qs99 (Or.inl hM.1) rfl rfl rfl (Nat.le_of_ble_eq_true rfl) (by decide) rfl rfl (fun r h hP => ?_) (fun _ _ _ hX => False.elim hX)
  obtain ⟨rfl, hM⟩ := hP
  refine x_toi (nI 1) (bI_t (isIn_nI hi (by omega))) ?_
  refine x_iconst C (nI 1) dX7_cancelling_6 rfl ?_
  refine x_callV (mc' := 0) (ms' := 0) C dX7_cancelling_7 (c_X7_right_t hl hM (nI 1) h7) mf_X7_right q3901 q3903 qs87 (Or.inl hM.1) rfl rfl rfl (Nat.le_of_ble_eq_true rfl) (by decide) rfl rfl (fun r h hP => ?_) (fun _ _ _ hX => False.elim hX)
  obtain ⟨rfl, hM⟩ := hP
  refine x_if_eq C 26 dX7_cancelling_10 (by decide) (fun c_10 => ?_) (fun c_10 => ?_)
  · exact absurd c_10 (by decide)
  · skip
    have c_10 := (xn_eqF 1 0 c_10 (by omega) (by omega))
    refine x_aload_n C dX7_cancelling_13 rfl ?_
    refine x_aload_n C dX7_cancelling_14 rfl ?_
    refine x_iload_n C dX7_cancelling_15 rfl ?_
    refine x_callV (mc' := 0) (ms' := 0) C dX7_cancelling_16 (c_X7_isBound hl hM i (by omega)) mf_X7_isBound q3987 q3989 qs102 (Or.inl hM.1) rfl rfl rfl (Nat.le_of_ble_eq_true rfl) (by decide) rfl rfl (fun r h hP => ?_) (fun _ _ _ hX => False.elim hX)
    obtain ⟨rfl, hM⟩ := hP
    refine x_toi (nI 0) (bI_f hb) ?_
    refine x_iconst C (nI 2) dX7_cancelling_19 rfl ?_
    refine x_callV (mc' := 0) (ms' := 0) C dX7_cancelling_20 (c_X7_right_f hl hM (nI 2) h7 (by decide)) mf_X7_right q3901 q3903 qs87 (Or.inl hM.1) rfl rfl rfl (Nat.le_of_ble_eq_true rfl) (by decide) rfl rfl (fun r h hP => ?_) (fun _ _ _ hX => False.elim hX)
    obtain ⟨rfl, hM⟩ := hP
    obtain ⟨F1, eF1, hM⟩ := MW.nameF hM
    refine x_if_ne C 28 dX7_cancelling_23 (by decide) (fun c_23 => ?_) (fun c_23 => ?_)
    · exact absurd c_23 (by decide)
    · skip
      have c_23 := (xn_neF 0 0 c_23 (by omega) (by omega))
      refine x_iconst C (nI 0) dX7_cancelling_26 rfl ?_
      exact x_iret B0 dX7_cancelling_27 rfl (by have q_ := eF1.symm; subst q_; exact ⟨rfl, hM⟩)
theorem c_X7_cancelling_f {G : xG} {l : Launch} (hl : l.stackTraces = false) {m : Nat} {A : Nat → Nat} {F n : Nat → Int32} {B : Nat → Nat → Int32} {h0 h : xAH} (hM : MW m A F n B h0 h) {S Gn Cn T : Nat} (hI : Ginv n S Gn Cn T) (h7 : F 7 = 0) (x : Int32) (hx : ¬ isIn x Cn) : xM G l yX7_cancelling cX7_cancelling 3 (Option.some Jvm.ClassFile.FieldType.int) [] 3 0 0 [.ref m, .int x] h (fun r h2 => r = some (.int (nI 0)) ∧ MW m A (va_up F 7 (nI 1)) n B h0 h2) xNo := by
  refine xcode_start (by decide) (Nat.le_of_ble_eq_true rfl) hl ?_
  intro E hE B0
  subst hE
  have C := B0.1
  have hS8 := hI.S8; have hG6 := hI.G6; have hC6 := hI.C6; have hT := hI.T0
  show xW G E 3 0 0 h 0 [(0, .ref m), (1, .int x)] []
  refine x_aload_n C dX7_cancelling_0 rfl ?_
  refine x_aload_n C dX7_cancelling_1 rfl ?_
  refine x_iload_n C dX7_cancelling_2 rfl ?_
  refine x_callV (mc' := 0) (ms' := 0) C dX7_cancelling_3 (c_X7_isCart hl hM hI x) mf_X7_isCart q3975 q3977 qs99 (Or.inl hM.1) rfl rfl rfl (Nat.le_of_ble_eq_true rfl) (by decide) rfl rfl (fun r h hP => ?_) (fun _ _ _ hX => False.elim hX)
  obtain ⟨rfl, hM⟩ := hP
  refine x_toi (nI 0) (bI_f hx) ?_
  refine x_iconst C (nI 1) dX7_cancelling_6 rfl ?_
  refine x_callV (mc' := 0) (ms' := 0) C dX7_cancelling_7 (c_X7_right_f hl hM (nI 1) h7 (by decide)) mf_X7_right q3901 q3903 qs87 (Or.inl hM.1) rfl rfl rfl (Nat.le_of_ble_eq_true rfl) (by decide) rfl rfl (fun r h hP => ?_) (fun _ _ _ hX => False.elim hX)
  obtain ⟨rfl, hM⟩ := hP
  obtain ⟨F1, eF1, hM⟩ := MW.nameF hM
  refine x_if_eq C 26 dX7_cancelling_10 (by decide) (fun c_10 => ?_) (fun c_10 => ?_)
  · skip
    have c_10 := (xn_eqT 0 0 c_10 (by omega) (by omega))
    refine x_iconst C (nI 0) dX7_cancelling_26 rfl ?_
    exact x_iret B0 dX7_cancelling_27 rfl (by have q_ := eF1.symm; subst q_; exact ⟨rfl, hM⟩)
  · exact absurd c_10 (by decide)
