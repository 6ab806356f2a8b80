/-! ===== the reference: changes ===== -/
theorem c_X7_changes {G : xG} {l : Launch} (hl : l.stackTraces = false) {m : Nat} {A : Nat → Nat} {F n : Nat → Int32} {B : Nat → Nat → Int32} {h0 h : xAH} (hM : MW m A F n B h0 h) (u : Nat) (hU : F 6 = nI u) (hu8 : u ≤ 8) (sc : Bool) (hsc : F 29 = bI sc) : xM G l yX7_changes cX7_changes 1 (Option.none : Option Jvm.ClassFile.FieldType) [] 2 0 0 [.ref m] h (fun r h2 => r = none ∧ MW m A (sp_chF F u sc) n (sp_chB B n u sc) h0 h2) xNo := by
  refine xcode_start (by decide) (Nat.le_of_ble_eq_true rfl) hl ?_
  intro E hE B0
  subst hE
  have C := B0.1
  show xW G E 1 0 0 h 0 [(0, .ref m)] []
  refine x_aload_n C dX7_changes_0 rfl ?_
  refine m_getI C dX7_changes_1 fl_X7_345_6 hM rfl ?_
  refine x_toi (bI sc) (by exact hsc) ?_
  by_cases hb_4 : sc = true
  · refine x_toi (nI 1) (bI_T hb_4) ?_
    refine x_if_ne C 11 dX7_changes_4 (by decide) (fun c_4 => ?_) (fun c_4 => ?_)
    rotate_left
    · exact absurd c_4 (by decide)
    exact x_ret B0 dX7_changes_11 rfl (by first | (rw [sp_chF_t hb_4, sp_chB_t hb_4]; exact ⟨rfl, hM⟩) | (rw [sp_chF_f hb_4, sp_chB_f hb_4]; exact ⟨rfl, hM⟩))
  · refine x_toi (nI 0) (bI_Fn hb_4) ?_
    refine x_if_ne C 11 dX7_changes_4 (by decide) (fun c_4 => ?_) (fun c_4 => ?_)
    · exact absurd c_4 (by decide)
    refine x_aload_n C dX7_changes_7 rfl ?_
    refine x_callV (mc' := 0) (ms' := 0) C dX7_changes_8 (c_X7_keeps hl hM u hU hu8) mf_X7_keeps q3959 q3961 qs95 (Or.inl hM.1) rfl rfl rfl (Nat.le_of_ble_eq_true rfl) (by decide) rfl rfl (fun r h hP => ?_) (fun _ _ _ hX => False.elim hX)
    obtain ⟨rfl, hM⟩ := hP
    obtain ⟨F1, eF1, hM⟩ := MW.nameF hM
    obtain ⟨B2, eB2, hM⟩ := MW.nameB hM
    exact x_ret B0 dX7_changes_11 rfl (by have q_ := eB2.symm; subst q_; have q_ := eF1.symm; subst q_; first | (rw [sp_chF_t hb_4, sp_chB_t hb_4]; exact ⟨rfl, hM⟩) | (rw [sp_chF_f hb_4, sp_chB_f hb_4]; exact ⟨rfl, hM⟩))
theorem c_X7_setting4_t {G : xG} {l : Launch} (hl : l.stackTraces = false) {m : Nat} {A : Nat → Nat} {F n : Nat → Int32} {B : Nat → Nat → Int32} {h0 h : xAH} (hM : MW m A F n B h0 h) (u : Nat) (hU : F 6 = nI u) (hu8 : u ≤ 8) (sc : Bool) (hsc : F 29 = bI sc) (v : Int32) (h7 : F 7 = 0) (hv : nI 0 ≤ v ∧ v ≤ nI 3) : xM G l yX7_setting cX7_setting 5 (Option.some Jvm.ClassFile.FieldType.int) [] 3 0 0 [.ref m, .int (nI 4), .int v, .int (nI 3)] h (fun r h2 => r = some (.int (n 4)) ∧ MW m A (sp_chF F u sc) (va_up n 4 v) (sp_chB B n u sc) h0 h2) xNo := by
  refine xcode_start (by decide) (Nat.le_of_ble_eq_true rfl) hl ?_
  intro E hE B0
  subst hE
  have C := B0.1
  show xW G E 5 0 0 h 0 [(0, .ref m), (1, .int (nI 4)), (2, .int v), (3, .int (nI 3))] []
  refine x_aload_n C dX7_setting_0 rfl ?_
  refine x_iload_n C dX7_setting_1 rfl ?_
  refine x_iconst C (nI 0) dX7_setting_2 rfl ?_
  refine x_iload_n C dX7_setting_3 rfl ?_
  refine x_callS (mc' := 0) (ms' := 0) C dX7_setting_4 (c_X7_in hl hM v (nI 0) (nI 3)) mf_X7_in q3696 q3697 rfl rfl (Nat.le_of_ble_eq_true rfl) (by decide) rfl rfl (fun r h hP => ?_) (fun _ _ _ hX => False.elim hX)
  obtain ⟨rfl, hM⟩ := hP
  refine x_toi (nI 1) (bI_t hv) ?_
  refine x_iconst C (nI 1) dX7_setting_7 rfl ?_
  refine x_callV (mc' := 0) (ms' := 0) C dX7_setting_8 (c_X7_right_t hl hM (nI 1) h7) mf_X7_right q3901 q3903 qs87 (Or.inl hM.1) rfl rfl rfl (Nat.le_of_ble_eq_true rfl) (by decide) rfl rfl (fun r h hP => ?_) (fun _ _ _ hX => False.elim hX)
  obtain ⟨rfl, hM⟩ := hP
  refine x_if_ne C 16 dX7_setting_11 (by decide) (fun c_11 => ?_) (fun c_11 => ?_)
  · skip
    have c_11 := (xn_neT 1 0 c_11 (by omega) (by omega))
    refine x_aload_n C dX7_setting_16 rfl ?_
    refine x_callV (mc' := 0) (ms' := 0) C dX7_setting_17 (c_X7_changes hl hM u hU hu8 sc hsc) mf_X7_changes q3995 q3997 qs104 (Or.inl hM.1) rfl rfl rfl (Nat.le_of_ble_eq_true rfl) (by decide) rfl rfl (fun r h hP => ?_) (fun _ _ _ hX => False.elim hX)
    obtain ⟨rfl, hM⟩ := hP
    obtain ⟨F1, eF1, hM⟩ := MW.nameF hM
    obtain ⟨B2, eB2, hM⟩ := MW.nameB hM
    refine x_aload_n C dX7_setting_20 rfl ?_
    refine m_getN C dX7_setting_21 fl_X7_7_6 hM ?_
    refine x_iload_n C dX7_setting_24 rfl ?_
    refine m_ldN C dX7_setting_25 hM (j := 4) rfl (by omega) ?_
    refine x_istore C dX7_setting_26 (by decide) rfl ?_
    refine x_aload_n C dX7_setting_28 rfl ?_
    refine m_getN C dX7_setting_29 fl_X7_7_6 hM ?_
    refine x_iload_n C dX7_setting_32 rfl ?_
    refine x_iload_n C dX7_setting_33 rfl ?_
    refine m_stN C dX7_setting_34 hM (j := 4) rfl (by omega) (fun h hM => ?_)
    obtain ⟨n3, en3, hM⟩ := MW.nameN hM
    refine x_iload C dX7_setting_35 rfl ?_
    exact x_iret B0 dX7_setting_37 rfl (by have q_ := en3.symm; subst q_; have q_ := eB2.symm; subst q_; have q_ := eF1.symm; subst q_; exact ⟨rfl, hM⟩)
  · exact absurd c_11 (by decide)
theorem c_X7_setting4_f {G : xG} {l : Launch} (hl : l.stackTraces = false) {m : Nat} {A : Nat → Nat} {F n : Nat → Int32} {B : Nat → Nat → Int32} {h0 h : xAH} (hM : MW m A F n B h0 h) (u : Nat) (hU : F 6 = nI u) (hu8 : u ≤ 8) (sc : Bool) (hsc : F 29 = bI sc) (v : Int32) (h7 : F 7 = 0) (hv : ¬ (nI 0 ≤ v ∧ v ≤ nI 3)) : xM G l yX7_setting cX7_setting 5 (Option.some Jvm.ClassFile.FieldType.int) [] 3 0 0 [.ref m, .int (nI 4), .int v, .int (nI 3)] h (fun r h2 => r = some (.int (nI 0)) ∧ MW m A (va_up F 7 (nI 1)) n B h0 h2) xNo := by
  refine xcode_start (by decide) (Nat.le_of_ble_eq_true rfl) hl ?_
  intro E hE B0
  subst hE
  have C := B0.1
  show xW G E 5 0 0 h 0 [(0, .ref m), (1, .int (nI 4)), (2, .int v), (3, .int (nI 3))] []
  refine x_aload_n C dX7_setting_0 rfl ?_
  refine x_iload_n C dX7_setting_1 rfl ?_
  refine x_iconst C (nI 0) dX7_setting_2 rfl ?_
  refine x_iload_n C dX7_setting_3 rfl ?_
  refine x_callS (mc' := 0) (ms' := 0) C dX7_setting_4 (c_X7_in hl hM v (nI 0) (nI 3)) mf_X7_in q3696 q3697 rfl rfl (Nat.le_of_ble_eq_true rfl) (by decide) rfl rfl (fun r h hP => ?_) (fun _ _ _ hX => False.elim hX)
  obtain ⟨rfl, hM⟩ := hP
  refine x_toi (nI 0) (bI_f hv) ?_
  refine x_iconst C (nI 1) dX7_setting_7 rfl ?_
  refine x_callV (mc' := 0) (ms' := 0) C dX7_setting_8 (c_X7_right_f hl hM (nI 1) h7 (by decide)) mf_X7_right q3901 q3903 qs87 (Or.inl hM.1) rfl rfl rfl (Nat.le_of_ble_eq_true rfl) (by decide) rfl rfl (fun r h hP => ?_) (fun _ _ _ hX => False.elim hX)
  obtain ⟨rfl, hM⟩ := hP
  obtain ⟨F1, eF1, hM⟩ := MW.nameF hM
  refine x_if_ne C 16 dX7_setting_11 (by decide) (fun c_11 => ?_) (fun c_11 => ?_)
  · exact absurd c_11 (by decide)
  · skip
    have c_11 := (xn_neF 0 0 c_11 (by omega) (by omega))
    refine x_iconst C (nI 0) dX7_setting_14 rfl ?_
    exact x_iret B0 dX7_setting_15 rfl (by have q_ := eF1.symm; subst q_; exact ⟨rfl, hM⟩)
theorem c_X7_setting1_t {G : xG} {l : Launch} (hl : l.stackTraces = false) {m : Nat} {A : Nat → Nat} {F n : Nat → Int32} {B : Nat → Nat → Int32} {h0 h : xAH} (hM : MW m A F n B h0 h) (u : Nat) (hU : F 6 = nI u) (hu8 : u ≤ 8) (sc : Bool) (hsc : F 29 = bI sc) (v : Int32) (h7 : F 7 = 0) (hv : nI 0 ≤ v ∧ v ≤ nI 9) : xM G l yX7_setting cX7_setting 5 (Option.some Jvm.ClassFile.FieldType.int) [] 3 0 0 [.ref m, .int (nI 1), .int v, .int (nI 9)] h (fun r h2 => r = some (.int (n 1)) ∧ MW m A (sp_chF F u sc) (va_up n 1 v) (sp_chB B n u sc) h0 h2) xNo := by
  refine xcode_start (by decide) (Nat.le_of_ble_eq_true rfl) hl ?_
  intro E hE B0
  subst hE
  have C := B0.1
  show xW G E 5 0 0 h 0 [(0, .ref m), (1, .int (nI 1)), (2, .int v), (3, .int (nI 9))] []
  refine x_aload_n C dX7_setting_0 rfl ?_
  refine x_iload_n C dX7_setting_1 rfl ?_
  refine x_iconst C (nI 0) dX7_setting_2 rfl ?_
  refine x_iload_n C dX7_setting_3 rfl ?_
  refine x_callS (mc' := 0) (ms' := 0) C dX7_setting_4 (c_X7_in hl hM v (nI 0) (nI 9)) mf_X7_in q3696 q3697 rfl rfl (Nat.le_of_ble_eq_true rfl) (by decide) rfl rfl (fun r h hP => ?_) (fun _ _ _ hX => False.elim hX)
  obtain ⟨rfl, hM⟩ := hP
  refine x_toi (nI 1) (bI_t hv) ?_
  refine x_iconst C (nI 1) dX7_setting_7 rfl ?_
  refine x_callV (mc' := 0) (ms' := 0) C dX7_setting_8 (c_X7_right_t hl hM (nI 1) h7) mf_X7_right q3901 q3903 qs87 (Or.inl hM.1) rfl rfl rfl (Nat.le_of_ble_eq_true rfl) (by decide) rfl rfl (fun r h hP => ?_) (fun _ _ _ hX => False.elim hX)
  obtain ⟨rfl, hM⟩ := hP
  refine x_if_ne C 16 dX7_setting_11 (by decide) (fun c_11 => ?_) (fun c_11 => ?_)
  · skip
    have c_11 := (xn_neT 1 0 c_11 (by omega) (by omega))
    refine x_aload_n C dX7_setting_16 rfl ?_
    refine x_callV (mc' := 0) (ms' := 0) C dX7_setting_17 (c_X7_changes hl hM u hU hu8 sc hsc) mf_X7_changes q3995 q3997 qs104 (Or.inl hM.1) rfl rfl rfl (Nat.le_of_ble_eq_true rfl) (by decide) rfl rfl (fun r h hP => ?_) (fun _ _ _ hX => False.elim hX)
    obtain ⟨rfl, hM⟩ := hP
    obtain ⟨F1, eF1, hM⟩ := MW.nameF hM
    obtain ⟨B2, eB2, hM⟩ := MW.nameB hM
    refine x_aload_n C dX7_setting_20 rfl ?_
    refine m_getN C dX7_setting_21 fl_X7_7_6 hM ?_
    refine x_iload_n C dX7_setting_24 rfl ?_
    refine m_ldN C dX7_setting_25 hM (j := 1) rfl (by omega) ?_
    refine x_istore C dX7_setting_26 (by decide) rfl ?_
    refine x_aload_n C dX7_setting_28 rfl ?_
    refine m_getN C dX7_setting_29 fl_X7_7_6 hM ?_
    refine x_iload_n C dX7_setting_32 rfl ?_
    refine x_iload_n C dX7_setting_33 rfl ?_
    refine m_stN C dX7_setting_34 hM (j := 1) rfl (by omega) (fun h hM => ?_)
    obtain ⟨n3, en3, hM⟩ := MW.nameN hM
    refine x_iload C dX7_setting_35 rfl ?_
    exact x_iret B0 dX7_setting_37 rfl (by have q_ := en3.symm; subst q_; have q_ := eB2.symm; subst q_; have q_ := eF1.symm; subst q_; exact ⟨rfl, hM⟩)
  · exact absurd c_11 (by decide)
theorem c_X7_setting1_f {G : xG} {l : Launch} (hl : l.stackTraces = false) {m : Nat} {A : Nat → Nat} {F n : Nat → Int32} {B : Nat → Nat → Int32} {h0 h : xAH} (hM : MW m A F n B h0 h) (u : Nat) (hU : F 6 = nI u) (hu8 : u ≤ 8) (sc : Bool) (hsc : F 29 = bI sc) (v : Int32) (h7 : F 7 = 0) (hv : ¬ (nI 0 ≤ v ∧ v ≤ nI 9)) : xM G l yX7_setting cX7_setting 5 (Option.some Jvm.ClassFile.FieldType.int) [] 3 0 0 [.ref m, .int (nI 1), .int v, .int (nI 9)] h (fun r h2 => r = some (.int (nI 0)) ∧ MW m A (va_up F 7 (nI 1)) n B h0 h2) xNo := by
  refine xcode_start (by decide) (Nat.le_of_ble_eq_true rfl) hl ?_
  intro E hE B0
  subst hE
  have C := B0.1
  show xW G E 5 0 0 h 0 [(0, .ref m), (1, .int (nI 1)), (2, .int v), (3, .int (nI 9))] []
  refine x_aload_n C dX7_setting_0 rfl ?_
  refine x_iload_n C dX7_setting_1 rfl ?_
  refine x_iconst C (nI 0) dX7_setting_2 rfl ?_
  refine x_iload_n C dX7_setting_3 rfl ?_
  refine x_callS (mc' := 0) (ms' := 0) C dX7_setting_4 (c_X7_in hl hM v (nI 0) (nI 9)) mf_X7_in q3696 q3697 rfl rfl (Nat.le_of_ble_eq_true rfl) (by decide) rfl rfl (fun r h hP => ?_) (fun _ _ _ hX => False.elim hX)
  obtain ⟨rfl, hM⟩ := hP
  refine x_toi (nI 0) (bI_f hv) ?_
  refine x_iconst C (nI 1) dX7_setting_7 rfl ?_
  refine x_callV (mc' := 0) (ms' := 0) C dX7_setting_8 (c_X7_right_f hl hM (nI 1) h7 (by decide)) mf_X7_right q3901 q3903 qs87 (Or.inl hM.1) rfl rfl rfl (Nat.le_of_ble_eq_true rfl) (by decide) rfl rfl (fun r h hP => ?_) (fun _ _ _ hX => False.elim hX)
  obtain ⟨rfl, hM⟩ := hP
  obtain ⟨F1, eF1, hM⟩ := MW.nameF hM
  refine x_if_ne C 16 dX7_setting_11 (by decide) (fun c_11 => ?_) (fun c_11 => ?_)
  · exact absurd c_11 (by decide)
  · skip
    have c_11 := (xn_neF 0 0 c_11 (by omega) (by omega))
    refine x_iconst C (nI 0) dX7_setting_14 rfl ?_
    exact x_iret B0 dX7_setting_15 rfl (by have q_ := eF1.symm; subst q_; exact ⟨rfl, hM⟩)
