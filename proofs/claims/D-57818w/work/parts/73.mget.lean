/-! ===== the reference: signing, cancelling, advancing ===== -/
theorem c_X7_finds_t {G : xG} {l : Launch} (hl : l.stackTraces = false) {m : Nat} {A : Nat → Nat} {F n : Nat → Int32} {B : Nat → Nat → Int32} {h0 h : xAH} (hM : MW m A F n B h0 h) {S Gn Cn T : Nat} (hI : Ginv n S Gn Cn T) (i : Nat) (hi : i < Cn) : xM G l yX7_finds cX7_finds 2 (Option.some Jvm.ClassFile.FieldType.boolean) [] 3 0 0 [.ref m, .int (nI i)] h (fun r h2 => r = some (.int (nI 1)) ∧ MW m A (va_up F 7 (nI 0)) n B h0 h2) xNo := by
  refine xcode_start (by decide) (Nat.le_of_ble_eq_true rfl) hl ?_
  intro E hE B0
  subst hE
  have C := B0.1
  have hS8 := hI.S8; have hG6 := hI.G6; have hC6 := hI.C6; have hT := hI.T0
  show xW G E 2 0 0 h 0 [(0, .ref m), (1, .int (nI i))] []
  refine x_aload_n C dX7_finds_0 rfl ?_
  refine x_iconst C (nI 0) dX7_finds_1 rfl ?_
  refine m_putI C dX7_finds_2 fl_X7_85_6 hM rfl rfl ⟨rfl, rfl⟩ (fun h hM => ?_)
  obtain ⟨F1, eF1, hM⟩ := MW.nameF hM
  refine x_aload_n C dX7_finds_5 rfl ?_
  refine x_aload_n C dX7_finds_6 rfl ?_
  refine x_iload_n C dX7_finds_7 rfl ?_
  refine x_callV (mc' := 0) (ms' := 0) C dX7_finds_8 (c_X7_isCart hl hM hI (nI i)) mf_X7_isCart q3975 q3977 qs99 (Or.inl hM.1) rfl rfl rfl (Nat.le_of_ble_eq_true rfl) (by decide) rfl rfl (fun r h hP => ?_) (fun _ _ _ hX => False.elim hX)
  obtain ⟨rfl, hM⟩ := hP
  refine x_toi (nI 1) (bI_t (isIn_nI hi (by omega))) ?_
  refine x_iconst C (nI 1) dX7_finds_11 rfl ?_
  refine x_callV (mc' := 0) (ms' := 0) C dX7_finds_12 (c_X7_right_t hl hM (nI 1) (by have q_ := eF1.symm; subst q_; rfl)) mf_X7_right q3901 q3903 qs87 (Or.inl hM.1) rfl rfl rfl (Nat.le_of_ble_eq_true rfl) (by decide) rfl rfl (fun r h hP => ?_) (fun _ _ _ hX => False.elim hX)
  obtain ⟨rfl, hM⟩ := hP
  exact x_zret B0 dX7_finds_15 rfl rfl (by have q_ := eF1.symm; subst q_; exact ⟨rfl, hM⟩)
theorem c_X7_finds_f {G : xG} {l : Launch} (hl : l.stackTraces = false) {m : Nat} {A : Nat → Nat} {F n : Nat → Int32} {B : Nat → Nat → Int32} {h0 h : xAH} (hM : MW m A F n B h0 h) {S Gn Cn T : Nat} (hI : Ginv n S Gn Cn T) (x : Int32) (hx : ¬ isIn x Cn) : xM G l yX7_finds cX7_finds 2 (Option.some Jvm.ClassFile.FieldType.boolean) [] 3 0 0 [.ref m, .int x] h (fun r h2 => r = some (.int (nI 0)) ∧ MW m A (va_up (va_up F 7 (nI 0)) 7 (nI 1)) n B h0 h2) xNo := by
  refine xcode_start (by decide) (Nat.le_of_ble_eq_true rfl) hl ?_
  intro E hE B0
  subst hE
  have C := B0.1
  have hS8 := hI.S8; have hG6 := hI.G6; have hC6 := hI.C6; have hT := hI.T0
  show xW G E 2 0 0 h 0 [(0, .ref m), (1, .int x)] []
  refine x_aload_n C dX7_finds_0 rfl ?_
  refine x_iconst C (nI 0) dX7_finds_1 rfl ?_
  refine m_putI C dX7_finds_2 fl_X7_85_6 hM rfl rfl ⟨rfl, rfl⟩ (fun h hM => ?_)
  obtain ⟨F1, eF1, hM⟩ := MW.nameF hM
  refine x_aload_n C dX7_finds_5 rfl ?_
  refine x_aload_n C dX7_finds_6 rfl ?_
  refine x_iload_n C dX7_finds_7 rfl ?_
  refine x_callV (mc' := 0) (ms' := 0) C dX7_finds_8 (c_X7_isCart hl hM hI x) mf_X7_isCart q3975 q3977 qs99 (Or.inl hM.1) rfl rfl rfl (Nat.le_of_ble_eq_true rfl) (by decide) rfl rfl (fun r h hP => ?_) (fun _ _ _ hX => False.elim hX)
  obtain ⟨rfl, hM⟩ := hP
  refine x_toi (nI 0) (bI_f hx) ?_
  refine x_iconst C (nI 1) dX7_finds_11 rfl ?_
  refine x_callV (mc' := 0) (ms' := 0) C dX7_finds_12 (c_X7_right_f hl hM (nI 1) (by have q_ := eF1.symm; subst q_; rfl) (by decide)) mf_X7_right q3901 q3903 qs87 (Or.inl hM.1) rfl rfl rfl (Nat.le_of_ble_eq_true rfl) (by decide) rfl rfl (fun r h hP => ?_) (fun _ _ _ hX => False.elim hX)
  obtain ⟨rfl, hM⟩ := hP
  obtain ⟨F2, eF2, hM⟩ := MW.nameF hM
  exact x_zret B0 dX7_finds_15 rfl rfl (by have q_ := eF2.symm; subst q_; have q_ := eF1.symm; subst q_; exact ⟨rfl, hM⟩)
theorem c_X7_contractStreet_t {G : xG} {l : Launch} (hl : l.stackTraces = false) {m : Nat} {A : Nat → Nat} {F n : Nat → Int32} {B : Nat → Nat → Int32} {h0 h : xAH} (hM : MW m A F n B h0 h) {S Gn Cn T : Nat} (hI : Ginv n S Gn Cn T) (i : Nat) (hi : i < Cn) : xM G l yX7_contractStreet cX7_contractStreet 2 (Option.some Jvm.ClassFile.FieldType.int) [] 4 0 0 [.ref m, .int (nI i)] h (fun r h2 => r = some (.int (if 0 < n (142 + 5 * i + 4) then n (142 + 5 * i + 2) else -1)) ∧ MW m A (va_up F 7 (nI 0)) n B h0 h2) xNo := by
  refine xcode_start (by decide) (Nat.le_of_ble_eq_true rfl) hl ?_
  intro E hE B0
  subst hE
  have C := B0.1
  have hS8 := hI.S8; have hG6 := hI.G6; have hC6 := hI.C6; have hT := hI.T0
  show xW G E 2 0 0 h 0 [(0, .ref m), (1, .int (nI i))] []
  refine x_aload_n C dX7_contractStreet_0 rfl ?_
  refine x_iload_n C dX7_contractStreet_1 rfl ?_
  refine x_callV (mc' := 0) (ms' := 0) C dX7_contractStreet_2 (c_X7_finds_t hl hM hI i (by omega)) mf_X7_finds q4157 q4159 qs128 (Or.inl hM.1) rfl rfl rfl (Nat.le_of_ble_eq_true rfl) (by decide) rfl rfl (fun r h hP => ?_) (fun _ _ _ hX => False.elim hX)
  obtain ⟨rfl, hM⟩ := hP
  obtain ⟨F1, eF1, hM⟩ := MW.nameF hM
  refine x_if_ne C 12 dX7_contractStreet_5 (by decide) (fun c_5 => ?_) (fun c_5 => ?_)
  · skip
    have c_5 := (xn_neT 1 0 c_5 (by omega) (by omega))
    refine x_aload_n C dX7_contractStreet_12 rfl ?_
    refine x_iload_n C dX7_contractStreet_13 rfl ?_
    refine x_callV (mc' := 0) (ms' := 0) C dX7_contractStreet_14 (c_X7_isBound hl hM i (by omega)) mf_X7_isBound q3987 q3989 qs102 (Or.inl hM.1) rfl rfl rfl (Nat.le_of_ble_eq_true rfl) (by decide) rfl rfl (fun r h hP => ?_) (fun _ _ _ hX => False.elim hX)
    obtain ⟨rfl, hM⟩ := hP
    by_cases hb_14 : 0 < n (142 + 5 * i + 4)
    · refine x_toi (nI 1) (bI_t hb_14) ?_
      refine x_if_eq C 29 dX7_contractStreet_17 (by decide) (fun c_17 => ?_) (fun c_17 => ?_)
      · exact absurd c_17 (by decide)
      · skip
        have c_17 := (xn_eqF 1 0 c_17 (by omega) (by omega))
        refine x_aload_n C dX7_contractStreet_20 rfl ?_
        refine x_iload_n C dX7_contractStreet_21 rfl ?_
        refine x_iconst C (nI 2) dX7_contractStreet_22 rfl ?_
        refine x_callV (mc' := 0) (ms' := 0) C dX7_contractStreet_23 (c_X7_ofC hl hM i 2 (by omega)) mf_X7_ofC q3991 q3993 qs103 (Or.inl hM.1) rfl rfl rfl (Nat.le_of_ble_eq_true rfl) (by decide) rfl rfl (fun r h hP => ?_) (fun _ _ _ hX => False.elim hX)
        obtain ⟨rfl, hM⟩ := hP
        refine x_goto C 30 dX7_contractStreet_26 (by decide) ?_
        exact x_iret B0 dX7_contractStreet_30 rfl (by have q_ := eF1.symm; subst q_; exact ⟨by first | rw [if_pos hb_14] | rw [if_neg hb_14], hM⟩)
    · refine x_toi (nI 0) (bI_f hb_14) ?_
      refine x_if_eq C 29 dX7_contractStreet_17 (by decide) (fun c_17 => ?_) (fun c_17 => ?_)
      · skip
        have c_17 := (xn_eqT 0 0 c_17 (by omega) (by omega))
        refine x_iconst C (-1) dX7_contractStreet_29 rfl ?_
        exact x_iret B0 dX7_contractStreet_30 rfl (by have q_ := eF1.symm; subst q_; exact ⟨by first | rw [if_pos hb_14] | rw [if_neg hb_14], hM⟩)
      · exact absurd c_17 (by decide)
  · exact absurd c_5 (by decide)
theorem c_X7_contractStreet_f {G : xG} {l : Launch} (hl : l.stackTraces = false) {m : Nat} {A : Nat → Nat} {F n : Nat → Int32} {B : Nat → Nat → Int32} {h0 h : xAH} (hM : MW m A F n B h0 h) {S Gn Cn T : Nat} (hI : Ginv n S Gn Cn T) (x : Int32) (hx : ¬ isIn x Cn) : xM G l yX7_contractStreet cX7_contractStreet 2 (Option.some Jvm.ClassFile.FieldType.int) [] 4 0 0 [.ref m, .int x] h (fun r h2 => r = some (.int (nI 0)) ∧ MW m A (va_up (va_up F 7 (nI 0)) 7 (nI 1)) n B h0 h2) xNo := by
  refine xcode_start (by decide) (Nat.le_of_ble_eq_true rfl) hl ?_
  intro E hE B0
  subst hE
  have C := B0.1
  have hS8 := hI.S8; have hG6 := hI.G6; have hC6 := hI.C6; have hT := hI.T0
  show xW G E 2 0 0 h 0 [(0, .ref m), (1, .int x)] []
  refine x_aload_n C dX7_contractStreet_0 rfl ?_
  refine x_iload_n C dX7_contractStreet_1 rfl ?_
  refine x_callV (mc' := 0) (ms' := 0) C dX7_contractStreet_2 (c_X7_finds_f hl hM hI x hx) mf_X7_finds q4157 q4159 qs128 (Or.inl hM.1) rfl rfl rfl (Nat.le_of_ble_eq_true rfl) (by decide) rfl rfl (fun r h hP => ?_) (fun _ _ _ hX => False.elim hX)
  obtain ⟨rfl, hM⟩ := hP
  obtain ⟨F1, eF1, hM⟩ := MW.nameF hM
  refine x_if_ne C 12 dX7_contractStreet_5 (by decide) (fun c_5 => ?_) (fun c_5 => ?_)
  · exact absurd c_5 (by decide)
  · skip
    have c_5 := (xn_neF 0 0 c_5 (by omega) (by omega))
    refine x_iconst C (nI 0) dX7_contractStreet_8 rfl ?_
    refine x_goto C 30 dX7_contractStreet_9 (by decide) ?_
    exact x_iret B0 dX7_contractStreet_30 rfl (by have q_ := eF1.symm; subst q_; exact ⟨rfl, hM⟩)
theorem c_X7_contractGarden_t {G : xG} {l : Launch} (hl : l.stackTraces = false) {m : Nat} {A : Nat → Nat} {F n : Nat → Int32} {B : Nat → Nat → Int32} {h0 h : xAH} (hM : MW m A F n B h0 h) {S Gn Cn T : Nat} (hI : Ginv n S Gn Cn T) (i : Nat) (hi : i < Cn) : xM G l yX7_contractGarden cX7_contractGarden 2 (Option.some Jvm.ClassFile.FieldType.int) [] 4 0 0 [.ref m, .int (nI i)] h (fun r h2 => r = some (.int (if 0 < n (142 + 5 * i + 4) then n (142 + 5 * i + 3) else -1)) ∧ MW m A (va_up F 7 (nI 0)) n B h0 h2) xNo := by
  refine xcode_start (by decide) (Nat.le_of_ble_eq_true rfl) hl ?_
  intro E hE B0
  subst hE
  have C := B0.1
  have hS8 := hI.S8; have hG6 := hI.G6; have hC6 := hI.C6; have hT := hI.T0
  show xW G E 2 0 0 h 0 [(0, .ref m), (1, .int (nI i))] []
  refine x_aload_n C dX7_contractGarden_0 rfl ?_
  refine x_iload_n C dX7_contractGarden_1 rfl ?_
  refine x_callV (mc' := 0) (ms' := 0) C dX7_contractGarden_2 (c_X7_finds_t hl hM hI i (by omega)) mf_X7_finds q4157 q4159 qs128 (Or.inl hM.1) rfl rfl rfl (Nat.le_of_ble_eq_true rfl) (by decide) rfl rfl (fun r h hP => ?_) (fun _ _ _ hX => False.elim hX)
  obtain ⟨rfl, hM⟩ := hP
  obtain ⟨F1, eF1, hM⟩ := MW.nameF hM
  refine x_if_ne C 12 dX7_contractGarden_5 (by decide) (fun c_5 => ?_) (fun c_5 => ?_)
  · skip
    have c_5 := (xn_neT 1 0 c_5 (by omega) (by omega))
    refine x_aload_n C dX7_contractGarden_12 rfl ?_
    refine x_iload_n C dX7_contractGarden_13 rfl ?_
    refine x_callV (mc' := 0) (ms' := 0) C dX7_contractGarden_14 (c_X7_isBound hl hM i (by omega)) mf_X7_isBound q3987 q3989 qs102 (Or.inl hM.1) rfl rfl rfl (Nat.le_of_ble_eq_true rfl) (by decide) rfl rfl (fun r h hP => ?_) (fun _ _ _ hX => False.elim hX)
    obtain ⟨rfl, hM⟩ := hP
    by_cases hb_14 : 0 < n (142 + 5 * i + 4)
    · refine x_toi (nI 1) (bI_t hb_14) ?_
      refine x_if_eq C 29 dX7_contractGarden_17 (by decide) (fun c_17 => ?_) (fun c_17 => ?_)
      · exact absurd c_17 (by decide)
      · skip
        have c_17 := (xn_eqF 1 0 c_17 (by omega) (by omega))
        refine x_aload_n C dX7_contractGarden_20 rfl ?_
        refine x_iload_n C dX7_contractGarden_21 rfl ?_
        refine x_iconst C (nI 3) dX7_contractGarden_22 rfl ?_
        refine x_callV (mc' := 0) (ms' := 0) C dX7_contractGarden_23 (c_X7_ofC hl hM i 3 (by omega)) mf_X7_ofC q3991 q3993 qs103 (Or.inl hM.1) rfl rfl rfl (Nat.le_of_ble_eq_true rfl) (by decide) rfl rfl (fun r h hP => ?_) (fun _ _ _ hX => False.elim hX)
        obtain ⟨rfl, hM⟩ := hP
        refine x_goto C 30 dX7_contractGarden_26 (by decide) ?_
        exact x_iret B0 dX7_contractGarden_30 rfl (by have q_ := eF1.symm; subst q_; exact ⟨by first | rw [if_pos hb_14] | rw [if_neg hb_14], hM⟩)
    · refine x_toi (nI 0) (bI_f hb_14) ?_
      refine x_if_eq C 29 dX7_contractGarden_17 (by decide) (fun c_17 => ?_) (fun c_17 => ?_)
      · skip
        have c_17 := (xn_eqT 0 0 c_17 (by omega) (by omega))
        refine x_iconst C (-1) dX7_contractGarden_29 rfl ?_
        exact x_iret B0 dX7_contractGarden_30 rfl (by have q_ := eF1.symm; subst q_; exact ⟨by first | rw [if_pos hb_14] | rw [if_neg hb_14], hM⟩)
      · exact absurd c_17 (by decide)
  · exact absurd c_5 (by decide)
theorem c_X7_contractGarden_f {G : xG} {l : Launch} (hl : l.stackTraces = false) {m : Nat} {A : Nat → Nat} {F n : Nat → Int32} {B : Nat → Nat → Int32} {h0 h : xAH} (hM : MW m A F n B h0 h) {S Gn Cn T : Nat} (hI : Ginv n S Gn Cn T) (x : Int32) (hx : ¬ isIn x Cn) : xM G l yX7_contractGarden cX7_contractGarden 2 (Option.some Jvm.ClassFile.FieldType.int) [] 4 0 0 [.ref m, .int x] h (fun r h2 => r = some (.int (nI 0)) ∧ MW m A (va_up (va_up F 7 (nI 0)) 7 (nI 1)) n B h0 h2) xNo := by
  refine xcode_start (by decide) (Nat.le_of_ble_eq_true rfl) hl ?_
  intro E hE B0
  subst hE
  have C := B0.1
  have hS8 := hI.S8; have hG6 := hI.G6; have hC6 := hI.C6; have hT := hI.T0
  show xW G E 2 0 0 h 0 [(0, .ref m), (1, .int x)] []
  refine x_aload_n C dX7_contractGarden_0 rfl ?_
  refine x_iload_n C dX7_contractGarden_1 rfl ?_
  refine x_callV (mc' := 0) (ms' := 0) C dX7_contractGarden_2 (c_X7_finds_f hl hM hI x hx) mf_X7_finds q4157 q4159 qs128 (Or.inl hM.1) rfl rfl rfl (Nat.le_of_ble_eq_true rfl) (by decide) rfl rfl (fun r h hP => ?_) (fun _ _ _ hX => False.elim hX)
  obtain ⟨rfl, hM⟩ := hP
  obtain ⟨F1, eF1, hM⟩ := MW.nameF hM
  refine x_if_ne C 12 dX7_contractGarden_5 (by decide) (fun c_5 => ?_) (fun c_5 => ?_)
  · exact absurd c_5 (by decide)
  · skip
    have c_5 := (xn_neF 0 0 c_5 (by omega) (by omega))
    refine x_iconst C (nI 0) dX7_contractGarden_8 rfl ?_
    refine x_goto C 30 dX7_contractGarden_9 (by decide) ?_
    exact x_iret B0 dX7_contractGarden_30 rfl (by have q_ := eF1.symm; subst q_; exact ⟨rfl, hM⟩)
theorem c_X7_nightsLeft_t {G : xG} {l : Launch} (hl : l.stackTraces = false) {m : Nat} {A : Nat → Nat} {F n : Nat → Int32} {B : Nat → Nat → Int32} {h0 h : xAH} (hM : MW m A F n B h0 h) {S Gn Cn T : Nat} (hI : Ginv n S Gn Cn T) (i : Nat) (hi : i < Cn) : xM G l yX7_nightsLeft cX7_nightsLeft 2 (Option.some Jvm.ClassFile.FieldType.int) [] 4 0 0 [.ref m, .int (nI i)] h (fun r h2 => r = some (.int (n (142 + 5 * i + 4))) ∧ MW m A (va_up F 7 (nI 0)) n B h0 h2) xNo := by
  refine xcode_start (by decide) (Nat.le_of_ble_eq_true rfl) hl ?_
  intro E hE B0
  subst hE
  have C := B0.1
  have hS8 := hI.S8; have hG6 := hI.G6; have hC6 := hI.C6; have hT := hI.T0
  show xW G E 2 0 0 h 0 [(0, .ref m), (1, .int (nI i))] []
  refine x_aload_n C dX7_nightsLeft_0 rfl ?_
  refine x_iload_n C dX7_nightsLeft_1 rfl ?_
  refine x_callV (mc' := 0) (ms' := 0) C dX7_nightsLeft_2 (c_X7_finds_t hl hM hI i (by omega)) mf_X7_finds q4157 q4159 qs128 (Or.inl hM.1) rfl rfl rfl (Nat.le_of_ble_eq_true rfl) (by decide) rfl rfl (fun r h hP => ?_) (fun _ _ _ hX => False.elim hX)
  obtain ⟨rfl, hM⟩ := hP
  obtain ⟨F1, eF1, hM⟩ := MW.nameF hM
  refine x_if_eq C 17 dX7_nightsLeft_5 (by decide) (fun c_5 => ?_) (fun c_5 => ?_)
  · exact absurd c_5 (by decide)
  · skip
    have c_5 := (xn_eqF 1 0 c_5 (by omega) (by omega))
    refine x_aload_n C dX7_nightsLeft_8 rfl ?_
    refine x_iload_n C dX7_nightsLeft_9 rfl ?_
    refine x_iconst C (nI 4) dX7_nightsLeft_10 rfl ?_
    refine x_callV (mc' := 0) (ms' := 0) C dX7_nightsLeft_11 (c_X7_ofC hl hM i 4 (by omega)) mf_X7_ofC q3991 q3993 qs103 (Or.inl hM.1) rfl rfl rfl (Nat.le_of_ble_eq_true rfl) (by decide) rfl rfl (fun r h hP => ?_) (fun _ _ _ hX => False.elim hX)
    obtain ⟨rfl, hM⟩ := hP
    refine x_goto C 18 dX7_nightsLeft_14 (by decide) ?_
    exact x_iret B0 dX7_nightsLeft_18 rfl (by have q_ := eF1.symm; subst q_; exact ⟨rfl, hM⟩)
theorem c_X7_nightsLeft_f {G : xG} {l : Launch} (hl : l.stackTraces = false) {m : Nat} {A : Nat → Nat} {F n : Nat → Int32} {B : Nat → Nat → Int32} {h0 h : xAH} (hM : MW m A F n B h0 h) {S Gn Cn T : Nat} (hI : Ginv n S Gn Cn T) (x : Int32) (hx : ¬ isIn x Cn) : xM G l yX7_nightsLeft cX7_nightsLeft 2 (Option.some Jvm.ClassFile.FieldType.int) [] 4 0 0 [.ref m, .int x] h (fun r h2 => r = some (.int (nI 0)) ∧ MW m A (va_up (va_up F 7 (nI 0)) 7 (nI 1)) n B h0 h2) xNo := by
  refine xcode_start (by decide) (Nat.le_of_ble_eq_true rfl) hl ?_
  intro E hE B0
  subst hE
  have C := B0.1
  have hS8 := hI.S8; have hG6 := hI.G6; have hC6 := hI.C6; have hT := hI.T0
  show xW G E 2 0 0 h 0 [(0, .ref m), (1, .int x)] []
  refine x_aload_n C dX7_nightsLeft_0 rfl ?_
  refine x_iload_n C dX7_nightsLeft_1 rfl ?_
  refine x_callV (mc' := 0) (ms' := 0) C dX7_nightsLeft_2 (c_X7_finds_f hl hM hI x hx) mf_X7_finds q4157 q4159 qs128 (Or.inl hM.1) rfl rfl rfl (Nat.le_of_ble_eq_true rfl) (by decide) rfl rfl (fun r h hP => ?_) (fun _ _ _ hX => False.elim hX)
  obtain ⟨rfl, hM⟩ := hP
  obtain ⟨F1, eF1, hM⟩ := MW.nameF hM
  refine x_if_eq C 17 dX7_nightsLeft_5 (by decide) (fun c_5 => ?_) (fun c_5 => ?_)
  · skip
    have c_5 := (xn_eqT 0 0 c_5 (by omega) (by omega))
    refine x_iconst C (nI 0) dX7_nightsLeft_17 rfl ?_
    exact x_iret B0 dX7_nightsLeft_18 rfl (by have q_ := eF1.symm; subst q_; exact ⟨rfl, hM⟩)
  · exact absurd c_5 (by decide)
theorem c_X7_wasServed_t {G : xG} {l : Launch} (hl : l.stackTraces = false) {m : Nat} {A : Nat → Nat} {F n : Nat → Int32} {B : Nat → Nat → Int32} {h0 h : xAH} (hM : MW m A F n B h0 h) {S Gn Cn T : Nat} (hI : Ginv n S Gn Cn T) (i : Nat) (hi : i < S) : xM G l yX7_wasServed cX7_wasServed 2 (Option.some Jvm.ClassFile.FieldType.boolean) [] 4 0 0 [.ref m, .int (nI i)] h (fun r h2 => r = some (.int (bI (decide (n (16 + 9 * i + 8) = nI 1)))) ∧ MW m A (va_up F 7 (nI 0)) n B h0 h2) xNo := by
  refine xcode_start (by decide) (Nat.le_of_ble_eq_true rfl) hl ?_
  intro E hE B0
  subst hE
  have C := B0.1
  have hS8 := hI.S8; have hG6 := hI.G6; have hC6 := hI.C6; have hT := hI.T0
  show xW G E 2 0 0 h 0 [(0, .ref m), (1, .int (nI i))] []
  refine x_aload_n C dX7_wasServed_0 rfl ?_
  refine x_iload_n C dX7_wasServed_1 rfl ?_
  refine x_bipush C (nI 8) dX7_wasServed_2 rfl ?_
  refine x_callV (mc' := 0) (ms' := 0) C dX7_wasServed_4 (c_X7_askedS_t hl hM hI i 8 (by omega) (by decide)) mf_X7_askedS q4101 q4103 qs126 (Or.inl hM.1) rfl rfl rfl (Nat.le_of_ble_eq_true rfl) (by decide) rfl rfl (fun r h hP => ?_) (fun _ _ _ hX => False.elim hX)
  obtain ⟨rfl, hM⟩ := hP
  obtain ⟨F1, eF1, hM⟩ := MW.nameF hM
  refine x_iconst C (nI 1) dX7_wasServed_7 rfl ?_
  refine x_sel_icmp_ne C 15 16 dX7_wasServed_8 (by decide) dX7_wasServed_11 dX7_wasServed_12 (by decide) dX7_wasServed_15 rfl ?_
  exact x_zret B0 dX7_wasServed_16 rfl (bI_nar _) (by have q_ := eF1.symm; subst q_; exact ⟨rfl, hM⟩)
theorem c_X7_wasServed_f {G : xG} {l : Launch} (hl : l.stackTraces = false) {m : Nat} {A : Nat → Nat} {F n : Nat → Int32} {B : Nat → Nat → Int32} {h0 h : xAH} (hM : MW m A F n B h0 h) {S Gn Cn T : Nat} (hI : Ginv n S Gn Cn T) (x : Int32) (hx : ¬ isIn x S) : xM G l yX7_wasServed cX7_wasServed 2 (Option.some Jvm.ClassFile.FieldType.boolean) [] 4 0 0 [.ref m, .int x] h (fun r h2 => r = some (.int (bI (decide (nI 0 = nI 1)))) ∧ MW m A (va_up (va_up F 7 (nI 0)) 7 (nI 1)) n B h0 h2) xNo := by
  refine xcode_start (by decide) (Nat.le_of_ble_eq_true rfl) hl ?_
  intro E hE B0
  subst hE
  have C := B0.1
  have hS8 := hI.S8; have hG6 := hI.G6; have hC6 := hI.C6; have hT := hI.T0
  show xW G E 2 0 0 h 0 [(0, .ref m), (1, .int x)] []
  refine x_aload_n C dX7_wasServed_0 rfl ?_
  refine x_iload_n C dX7_wasServed_1 rfl ?_
  refine x_bipush C (nI 8) dX7_wasServed_2 rfl ?_
  refine x_callV (mc' := 0) (ms' := 0) C dX7_wasServed_4 (c_X7_askedS_f hl hM hI x 8 hx) mf_X7_askedS q4101 q4103 qs126 (Or.inl hM.1) rfl rfl rfl (Nat.le_of_ble_eq_true rfl) (by decide) rfl rfl (fun r h hP => ?_) (fun _ _ _ hX => False.elim hX)
  obtain ⟨rfl, hM⟩ := hP
  obtain ⟨F1, eF1, hM⟩ := MW.nameF hM
  refine x_iconst C (nI 1) dX7_wasServed_7 rfl ?_
  refine x_sel_icmp_ne C 15 16 dX7_wasServed_8 (by decide) dX7_wasServed_11 dX7_wasServed_12 (by decide) dX7_wasServed_15 rfl ?_
  exact x_zret B0 dX7_wasServed_16 rfl (bI_nar _) (by have q_ := eF1.symm; subst q_; exact ⟨rfl, hM⟩)
