/-! ===== the reference: undo, save, restore ===== -/
theorem c_X7_undo_t {G : xG} {l : Launch} (hl : l.stackTraces = false) {m : Nat} {A : Nat → Nat} {F n : Nat → Int32} {B : Nat → Nat → Int32} {h0 h : xAH} (hM : MW m A F n B h0 h) (u : Nat) (hU : F 6 = nI u) (hu8 : u ≤ 8) (h1 : 1 ≤ u) : xM G l yX7_undo cX7_undo 2 (Option.some Jvm.ClassFile.FieldType.int) [] 2 0 0 [.ref m] h (fun r h2 => r = some (.int (nI (u - 1))) ∧ MW m A (va_up (va_up F 7 (nI 0)) 6 (nI (u - 1))) (sp_cp 0 (fun k => B 3 (212 * (u - 1) + k)) n 212) B h0 h2) xNo := by
  refine xcode_start (by decide) (Nat.le_of_ble_eq_true rfl) hl ?_
  intro E hE B0
  subst hE
  have C := B0.1
  show xW G E 2 0 0 h 0 [(0, .ref m)] []
  refine x_aload_n C dX7_undo_0 rfl ?_
  refine x_iconst C (nI 0) dX7_undo_1 rfl ?_
  refine m_putI C dX7_undo_2 fl_X7_85_6 hM rfl rfl ⟨rfl, rfl⟩ (fun h hM => ?_)
  obtain ⟨F1, eF1, hM⟩ := MW.nameF hM
  refine x_aload_n C dX7_undo_5 rfl ?_
  refine x_aload_n C dX7_undo_6 rfl ?_
  refine m_getI C dX7_undo_7 fl_X7_282_6 hM rfl ?_
  refine x_toi (nI u) (by have q_ := eF1.symm; subst q_; exact hU) ?_
  refine x_if_le C 17 dX7_undo_10 (by decide) (fun c_10 => ?_) (fun c_10 => ?_)
  · skip
    have c_10 := (xn_leT u 0 c_10 (by omega) (by omega))
    exact absurd c_10 (by omega)
  · skip
    have c_10 := (xn_leF u 0 c_10 (by omega) (by omega))
    refine x_iconst C (nI 1) dX7_undo_13 rfl ?_
    refine x_goto C 18 dX7_undo_14 (by decide) ?_
    refine x_iconst C (nI 1) dX7_undo_18 rfl ?_
    refine x_callV (mc' := 0) (ms' := 0) C dX7_undo_19 (c_X7_right_t hl hM (nI 1) (by have q_ := eF1.symm; subst q_; rfl)) mf_X7_right q3901 q3903 qs87 (Or.inl hM.1) rfl rfl rfl (Nat.le_of_ble_eq_true rfl) (by decide) rfl rfl (fun r h hP => ?_) (fun _ _ _ hX => False.elim hX)
    obtain ⟨rfl, hM⟩ := hP
    refine x_if_ne C 27 dX7_undo_22 (by decide) (fun c_22 => ?_) (fun c_22 => ?_)
    · skip
      have c_22 := (xn_neT 1 0 c_22 (by omega) (by omega))
      refine x_aload_n C dX7_undo_27 rfl ?_
      refine x_dup C dX7_undo_28 rfl ?_
      refine m_getI C dX7_undo_29 fl_X7_282_6 hM rfl ?_
      refine x_toi (nI u) (by have q_ := eF1.symm; subst q_; exact hU) ?_
      refine x_iconst C (nI 1) dX7_undo_32 rfl ?_
      refine x_isub C dX7_undo_33 ?_
      refine x_toi (nI (u - 1)) (pk_sub (by omega)) ?_
      refine m_putI C dX7_undo_34 fl_X7_282_6 hM rfl rfl ⟨rfl, rfl⟩ (fun h hM => ?_)
      obtain ⟨F2, eF2, hM⟩ := MW.nameF hM
      refine x_iconst C (nI 0) dX7_undo_37 rfl ?_
      refine x_istore_n C dX7_undo_38 (by decide) rfl ?_
      have L39 : ∀ (d : Nat) (k : Nat), 212 - k = d → (k ≤ 212) → ∀ h, MW m A F2 (sp_cp 0 (fun k => B 3 (212 * (u - 1) + k)) n k) B h0 h → xW G E 2 0 0 h 39 [(0, .ref m), (1, .int (nI k))] [] := by
        intro d
        induction d using Nat.strongRecOn with | _ d ih39 => ?_
        intro k hd39 hk h hM
        refine x_iload_n C dX7_undo_39 rfl ?_
        refine x_sipush C (nI 212) dX7_undo_40 rfl ?_
        refine x_icmp_ge C 73 dX7_undo_43 (by decide) (fun c_43 => ?_) (fun c_43 => ?_)
        · skip
          have c_43 := (xn_geT k 212 c_43 (by omega) (by omega))
          obtain rfl : 212 = k := (by omega)
          refine x_aload_n C dX7_undo_73 rfl ?_
          refine m_getI C dX7_undo_74 fl_X7_282_6 hM rfl ?_
          refine x_toi (nI (u - 1)) (by exact (by have q_ := eF2.symm; subst q_; exact rfl)) ?_
          exact x_iret B0 dX7_undo_77 rfl (by have q_ := eF2.symm; subst q_; have q_ := eF1.symm; subst q_; exact ⟨rfl, hM⟩)
        · skip
          have c_43 := (xn_geF k 212 c_43 (by omega) (by omega))
          refine x_aload_n C dX7_undo_46 rfl ?_
          refine m_getN C dX7_undo_47 fl_X7_7_6 hM ?_
          refine x_iload_n C dX7_undo_50 rfl ?_
          refine x_aload_n C dX7_undo_51 rfl ?_
          refine m_getA C dX7_undo_52 fl_X7_19_6 hM rfl ?_
          refine x_sipush C (nI 212) dX7_undo_55 rfl ?_
          refine x_aload_n C dX7_undo_58 rfl ?_
          refine m_getI C dX7_undo_59 fl_X7_282_6 hM rfl ?_
          refine x_toi (nI (u - 1)) (by exact (by have q_ := eF2.symm; subst q_; exact rfl)) ?_
          refine x_imul C dX7_undo_62 ?_
          refine x_toi (nI (212 * (u - 1))) (pk_mul _ _) ?_
          refine x_iload_n C dX7_undo_63 rfl ?_
          refine x_iadd C dX7_undo_64 ?_
          refine x_toi (nI ((212 * (u - 1)) + k)) (nI_add _ _) ?_
          refine m_ld C dX7_undo_65 hM rfl (j := (212 * (u - 1)) + k) rfl (show _ < 1696 from by omega) ?_
          refine m_stN C dX7_undo_66 hM (j := k) rfl (by omega) (fun h hM => ?_)
          obtain ⟨n3, en3, hM⟩ := MW.nameN hM
          refine x_iinc C (nI (k + 1)) dX7_undo_67 rfl (nI_add _ 1) (by decide) rfl ?_
          refine x_goto C 39 dX7_undo_70 (by decide) ?_
          refine x_locs2 [(0, .ref m), (1, .int (nI (k + 1)))] ⟨rfl, rfl, trivial⟩ ?_
          exact ih39 _ (by omega) (k + 1) rfl (by omega) h (by have q_ := en3.symm; subst q_; show MW m A _ (va_up (sp_cp 0 (fun k => B 3 (212 * (u - 1) + k)) n k) (0 + k) (B 3 (212 * (u - 1) + k))) B h0 h; rw [Nat.zero_add]; exact hM)
      refine x_locs2 [(0, .ref m), (1, .int (nI 0))] ⟨rfl, rfl, trivial⟩ ?_
      exact L39 _ 0 rfl (by omega) h (by have q_ := eF2.symm; subst q_; have q_ := eF1.symm; subst q_; exact hM)
    · exact absurd c_22 (by decide)
theorem c_X7_undo_f {G : xG} {l : Launch} (hl : l.stackTraces = false) {m : Nat} {A : Nat → Nat} {F n : Nat → Int32} {B : Nat → Nat → Int32} {h0 h : xAH} (hM : MW m A F n B h0 h) (hU : F 6 = nI 0) : xM G l yX7_undo cX7_undo 2 (Option.some Jvm.ClassFile.FieldType.int) [] 2 0 0 [.ref m] h (fun r h2 => r = some (.int (nI 0)) ∧ MW m A (va_up (va_up F 7 (nI 0)) 7 (nI 1)) n B h0 h2) xNo := by
  refine xcode_start (by decide) (Nat.le_of_ble_eq_true rfl) hl ?_
  intro E hE B0
  subst hE
  have C := B0.1
  show xW G E 2 0 0 h 0 [(0, .ref m)] []
  refine x_aload_n C dX7_undo_0 rfl ?_
  refine x_iconst C (nI 0) dX7_undo_1 rfl ?_
  refine m_putI C dX7_undo_2 fl_X7_85_6 hM rfl rfl ⟨rfl, rfl⟩ (fun h hM => ?_)
  obtain ⟨F1, eF1, hM⟩ := MW.nameF hM
  refine x_aload_n C dX7_undo_5 rfl ?_
  refine x_aload_n C dX7_undo_6 rfl ?_
  refine m_getI C dX7_undo_7 fl_X7_282_6 hM rfl ?_
  refine x_toi (nI 0) (by have q_ := eF1.symm; subst q_; exact hU) ?_
  refine x_if_le C 17 dX7_undo_10 (by decide) (fun c_10 => ?_) (fun c_10 => ?_)
  · skip
    have c_10 := (xn_leT 0 0 c_10 (by omega) (by omega))
    refine x_iconst C (nI 0) dX7_undo_17 rfl ?_
    refine x_iconst C (nI 1) dX7_undo_18 rfl ?_
    refine x_callV (mc' := 0) (ms' := 0) C dX7_undo_19 (c_X7_right_f hl hM (nI 1) (by have q_ := eF1.symm; subst q_; rfl) (by decide)) mf_X7_right q3901 q3903 qs87 (Or.inl hM.1) rfl rfl rfl (Nat.le_of_ble_eq_true rfl) (by decide) rfl rfl (fun r h hP => ?_) (fun _ _ _ hX => False.elim hX)
    obtain ⟨rfl, hM⟩ := hP
    obtain ⟨F2, eF2, hM⟩ := MW.nameF hM
    refine x_if_ne C 27 dX7_undo_22 (by decide) (fun c_22 => ?_) (fun c_22 => ?_)
    · exact absurd c_22 (by decide)
    · skip
      have c_22 := (xn_neF 0 0 c_22 (by omega) (by omega))
      refine x_iconst C (nI 0) dX7_undo_25 rfl ?_
      exact x_iret B0 dX7_undo_26 rfl (by have q_ := eF2.symm; subst q_; have q_ := eF1.symm; subst q_; exact ⟨rfl, hM⟩)
  · exact absurd c_10 (by decide)
theorem c_X7_save_t {G : xG} {l : Launch} (hl : l.stackTraces = false) {m : Nat} {A : Nat → Nat} {F n : Nat → Int32} {B : Nat → Nat → Int32} {h0 h : xAH} (hM : MW m A F n B h0 h) (x : Nat) (hx : x < 2) : xM G l yX7_save cX7_save 3 (Option.some Jvm.ClassFile.FieldType.int) [] 2 0 0 [.ref m, .int (nI x)] h (fun r h2 => r = some (.int (n 5)) ∧ MW m A (va_up F 7 (nI 0)) n (va_up (va_up B 4 (sp_cp (212 * x) n (B 4) 212)) 5 (va_up (B 5) x (nI 1))) h0 h2) xNo := by
  refine xcode_start (by decide) (Nat.le_of_ble_eq_true rfl) hl ?_
  intro E hE B0
  subst hE
  have C := B0.1
  show xW G E 3 0 0 h 0 [(0, .ref m), (1, .int (nI x))] []
  refine x_aload_n C dX7_save_0 rfl ?_
  refine x_iconst C (nI 0) dX7_save_1 rfl ?_
  refine m_putI C dX7_save_2 fl_X7_85_6 hM rfl rfl ⟨rfl, rfl⟩ (fun h hM => ?_)
  obtain ⟨F1, eF1, hM⟩ := MW.nameF hM
  refine x_aload_n C dX7_save_5 rfl ?_
  refine x_iload_n C dX7_save_6 rfl ?_
  refine x_iconst C (nI 0) dX7_save_7 rfl ?_
  refine x_iconst C (nI 1) dX7_save_8 rfl ?_
  refine x_callS (mc' := 0) (ms' := 0) C dX7_save_9 (c_X7_in hl hM (nI x) (nI 0) (nI 1)) mf_X7_in q3696 q3697 rfl rfl (Nat.le_of_ble_eq_true rfl) (by decide) rfl rfl (fun r h hP => ?_) (fun _ _ _ hX => False.elim hX)
  obtain ⟨rfl, hM⟩ := hP
  refine x_toi (nI 1) (bI_t ⟨nI_pos' (by omega), nI_le (b := 1) (by omega) (by decide)⟩) ?_
  refine x_iconst C (nI 1) dX7_save_12 rfl ?_
  refine x_callV (mc' := 0) (ms' := 0) C dX7_save_13 (c_X7_right_t hl hM (nI 1) (by have q_ := eF1.symm; subst q_; rfl)) mf_X7_right q3901 q3903 qs87 (Or.inl hM.1) rfl rfl rfl (Nat.le_of_ble_eq_true rfl) (by decide) rfl rfl (fun r h hP => ?_) (fun _ _ _ hX => False.elim hX)
  obtain ⟨rfl, hM⟩ := hP
  refine x_if_ne C 21 dX7_save_16 (by decide) (fun c_16 => ?_) (fun c_16 => ?_)
  · skip
    have c_16 := (xn_neT 1 0 c_16 (by omega) (by omega))
    refine x_iconst C (nI 0) dX7_save_21 rfl ?_
    refine x_istore_n C dX7_save_22 (by decide) rfl ?_
    have L23 : ∀ (d : Nat) (k : Nat), 212 - k = d → (k ≤ 212) → ∀ h, MW m A F1 n (va_up B 4 (sp_cp (212 * x) n (B 4) k)) h0 h → xW G E 3 0 0 h 23 [(0, .ref m), (1, .int (nI x)), (2, .int (nI k))] [] := by
      intro d
      induction d using Nat.strongRecOn with | _ d ih23 => ?_
      intro k hd23 hk h hM
      refine x_iload_n C dX7_save_23 rfl ?_
      refine x_sipush C (nI 212) dX7_save_24 rfl ?_
      refine x_icmp_ge C 54 dX7_save_27 (by decide) (fun c_27 => ?_) (fun c_27 => ?_)
      · skip
        have c_27 := (xn_geT k 212 c_27 (by omega) (by omega))
        obtain rfl : 212 = k := (by omega)
        refine x_aload_n C dX7_save_54 rfl ?_
        refine m_getA C dX7_save_55 fl_X7_25_6 hM rfl ?_
        refine x_iload_n C dX7_save_58 rfl ?_
        refine x_iconst C (nI 1) dX7_save_59 rfl ?_
        refine m_stZ C dX7_save_60 hM (j := x) rfl (by omega) (fun h hM => ?_)
        obtain ⟨B2, eB2, hM⟩ := MW.nameB hM
        refine x_aload_n C dX7_save_61 rfl ?_
        refine m_getN C dX7_save_62 fl_X7_7_6 hM ?_
        refine x_iconst C (nI 5) dX7_save_65 rfl ?_
        refine m_ldN C dX7_save_66 hM (j := 5) rfl (by omega) ?_
        exact x_iret B0 dX7_save_67 rfl (by have q_ := eB2.symm; subst q_; have q_ := eF1.symm; subst q_; exact ⟨rfl, hM⟩)
      · skip
        have c_27 := (xn_geF k 212 c_27 (by omega) (by omega))
        refine x_aload_n C dX7_save_30 rfl ?_
        refine m_getA C dX7_save_31 fl_X7_22_6 hM rfl ?_
        refine x_sipush C (nI 212) dX7_save_34 rfl ?_
        refine x_iload_n C dX7_save_37 rfl ?_
        refine x_imul C dX7_save_38 ?_
        refine x_toi (nI (212 * x)) (pk_mul _ _) ?_
        refine x_iload_n C dX7_save_39 rfl ?_
        refine x_iadd C dX7_save_40 ?_
        refine x_toi (nI ((212 * x) + k)) (nI_add _ _) ?_
        refine x_aload_n C dX7_save_41 rfl ?_
        refine m_getN C dX7_save_42 fl_X7_7_6 hM ?_
        refine x_iload_n C dX7_save_45 rfl ?_
        refine m_ldN C dX7_save_46 hM (j := k) rfl (by omega) ?_
        refine m_st C dX7_save_47 hM rfl (j := (212 * x) + k) rfl (show _ < 424 from by omega) (fun h hM => ?_)
        obtain ⟨B3, eB3, hM⟩ := MW.nameB hM
        refine x_iinc C (nI (k + 1)) dX7_save_48 rfl (nI_add _ 1) (by decide) rfl ?_
        refine x_goto C 23 dX7_save_51 (by decide) ?_
        refine x_locs2 [(0, .ref m), (1, .int (nI x)), (2, .int (nI (k + 1)))] ⟨rfl, rfl, rfl, trivial⟩ ?_
        exact ih23 _ (by omega) (k + 1) rfl (by omega) h (by have q_ := eB3.symm; subst q_; have e := cp_step B 4 n (B 4) (212 * x) k 0; rw [← e]; exact hM)
    refine x_locs2 [(0, .ref m), (1, .int (nI x)), (2, .int (nI 0))] ⟨rfl, rfl, rfl, trivial⟩ ?_
    exact L23 _ 0 rfl (by omega) h (by have q_ := eF1.symm; subst q_; rw [cp_zero]; exact hM)
  · exact absurd c_16 (by decide)
theorem c_X7_save_f {G : xG} {l : Launch} (hl : l.stackTraces = false) {m : Nat} {A : Nat → Nat} {F n : Nat → Int32} {B : Nat → Nat → Int32} {h0 h : xAH} (hM : MW m A F n B h0 h) (y : Int32) (hy : ¬ (nI 0 ≤ y ∧ y ≤ nI 1)) : xM G l yX7_save cX7_save 3 (Option.some Jvm.ClassFile.FieldType.int) [] 2 0 0 [.ref m, .int y] h (fun r h2 => r = some (.int (nI 0)) ∧ MW m A (va_up (va_up F 7 (nI 0)) 7 (nI 1)) n B h0 h2) xNo := by
  refine xcode_start (by decide) (Nat.le_of_ble_eq_true rfl) hl ?_
  intro E hE B0
  subst hE
  have C := B0.1
  show xW G E 3 0 0 h 0 [(0, .ref m), (1, .int y)] []
  refine x_aload_n C dX7_save_0 rfl ?_
  refine x_iconst C (nI 0) dX7_save_1 rfl ?_
  refine m_putI C dX7_save_2 fl_X7_85_6 hM rfl rfl ⟨rfl, rfl⟩ (fun h hM => ?_)
  obtain ⟨F1, eF1, hM⟩ := MW.nameF hM
  refine x_aload_n C dX7_save_5 rfl ?_
  refine x_iload_n C dX7_save_6 rfl ?_
  refine x_iconst C (nI 0) dX7_save_7 rfl ?_
  refine x_iconst C (nI 1) dX7_save_8 rfl ?_
  refine x_callS (mc' := 0) (ms' := 0) C dX7_save_9 (c_X7_in hl hM y (nI 0) (nI 1)) mf_X7_in q3696 q3697 rfl rfl (Nat.le_of_ble_eq_true rfl) (by decide) rfl rfl (fun r h hP => ?_) (fun _ _ _ hX => False.elim hX)
  obtain ⟨rfl, hM⟩ := hP
  refine x_toi (nI 0) (bI_f hy) ?_
  refine x_iconst C (nI 1) dX7_save_12 rfl ?_
  refine x_callV (mc' := 0) (ms' := 0) C dX7_save_13 (c_X7_right_f hl hM (nI 1) (by have q_ := eF1.symm; subst q_; rfl) (by decide)) mf_X7_right q3901 q3903 qs87 (Or.inl hM.1) rfl rfl rfl (Nat.le_of_ble_eq_true rfl) (by decide) rfl rfl (fun r h hP => ?_) (fun _ _ _ hX => False.elim hX)
  obtain ⟨rfl, hM⟩ := hP
  obtain ⟨F2, eF2, hM⟩ := MW.nameF hM
  refine x_if_ne C 21 dX7_save_16 (by decide) (fun c_16 => ?_) (fun c_16 => ?_)
  · exact absurd c_16 (by decide)
  · skip
    have c_16 := (xn_neF 0 0 c_16 (by omega) (by omega))
    refine x_iconst C (nI 0) dX7_save_19 rfl ?_
    exact x_iret B0 dX7_save_20 rfl (by have q_ := eF2.symm; subst q_; have q_ := eF1.symm; subst q_; exact ⟨rfl, hM⟩)
theorem c_X7_restore_f {G : xG} {l : Launch} (hl : l.stackTraces = false) {m : Nat} {A : Nat → Nat} {F n : Nat → Int32} {B : Nat → Nat → Int32} {h0 h : xAH} (hM : MW m A F n B h0 h) (y : Int32) (hy : ¬ (nI 0 ≤ y ∧ y ≤ nI 1)) : xM G l yX7_restore cX7_restore 3 (Option.some Jvm.ClassFile.FieldType.int) [] 2 0 0 [.ref m, .int y] h (fun r h2 => r = some (.int (nI 0)) ∧ MW m A (va_up (va_up F 7 (nI 0)) 7 (nI 1)) n B h0 h2) xNo := by
  refine xcode_start (by decide) (Nat.le_of_ble_eq_true rfl) hl ?_
  intro E hE B0
  subst hE
  have C := B0.1
  show xW G E 3 0 0 h 0 [(0, .ref m), (1, .int y)] []
  refine x_aload_n C dX7_restore_0 rfl ?_
  refine x_iconst C (nI 0) dX7_restore_1 rfl ?_
  refine m_putI C dX7_restore_2 fl_X7_85_6 hM rfl rfl ⟨rfl, rfl⟩ (fun h hM => ?_)
  obtain ⟨F1, eF1, hM⟩ := MW.nameF hM
  refine x_aload_n C dX7_restore_5 rfl ?_
  refine x_iload_n C dX7_restore_6 rfl ?_
  refine x_iconst C (nI 0) dX7_restore_7 rfl ?_
  refine x_iconst C (nI 1) dX7_restore_8 rfl ?_
  refine x_callS (mc' := 0) (ms' := 0) C dX7_restore_9 (c_X7_in hl hM y (nI 0) (nI 1)) mf_X7_in q3696 q3697 rfl rfl (Nat.le_of_ble_eq_true rfl) (by decide) rfl rfl (fun r h hP => ?_) (fun _ _ _ hX => False.elim hX)
  obtain ⟨rfl, hM⟩ := hP
  refine x_toi (nI 0) (bI_f hy) ?_
  refine x_iconst C (nI 1) dX7_restore_12 rfl ?_
  refine x_callV (mc' := 0) (ms' := 0) C dX7_restore_13 (c_X7_right_f hl hM (nI 1) (by have q_ := eF1.symm; subst q_; rfl) (by decide)) mf_X7_right q3901 q3903 qs87 (Or.inl hM.1) rfl rfl rfl (Nat.le_of_ble_eq_true rfl) (by decide) rfl rfl (fun r h hP => ?_) (fun _ _ _ hX => False.elim hX)
  obtain ⟨rfl, hM⟩ := hP
  obtain ⟨F2, eF2, hM⟩ := MW.nameF hM
  refine x_if_eq C 33 dX7_restore_16 (by decide) (fun c_16 => ?_) (fun c_16 => ?_)
  · skip
    have c_16 := (xn_eqT 0 0 c_16 (by omega) (by omega))
    refine x_iconst C (nI 0) dX7_restore_33 rfl ?_
    exact x_iret B0 dX7_restore_34 rfl (by have q_ := eF2.symm; subst q_; have q_ := eF1.symm; subst q_; exact ⟨rfl, hM⟩)
  · exact absurd c_16 (by decide)
theorem c_X7_restore_e {G : xG} {l : Launch} (hl : l.stackTraces = false) {m : Nat} {A : Nat → Nat} {F n : Nat → Int32} {B : Nat → Nat → Int32} {h0 h : xAH} (hM : MW m A F n B h0 h) (x : Nat) (hx : x < 2) (hs : B 5 x = nI 0) : xM G l yX7_restore cX7_restore 3 (Option.some Jvm.ClassFile.FieldType.int) [] 2 0 0 [.ref m, .int (nI x)] h (fun r h2 => r = some (.int (nI 0)) ∧ MW m A (va_up (va_up F 7 (nI 0)) 7 (nI 2)) n B h0 h2) xNo := by
  refine xcode_start (by decide) (Nat.le_of_ble_eq_true rfl) hl ?_
  intro E hE B0
  subst hE
  have C := B0.1
  show xW G E 3 0 0 h 0 [(0, .ref m), (1, .int (nI x))] []
  refine x_aload_n C dX7_restore_0 rfl ?_
  refine x_iconst C (nI 0) dX7_restore_1 rfl ?_
  refine m_putI C dX7_restore_2 fl_X7_85_6 hM rfl rfl ⟨rfl, rfl⟩ (fun h hM => ?_)
  obtain ⟨F1, eF1, hM⟩ := MW.nameF hM
  refine x_aload_n C dX7_restore_5 rfl ?_
  refine x_iload_n C dX7_restore_6 rfl ?_
  refine x_iconst C (nI 0) dX7_restore_7 rfl ?_
  refine x_iconst C (nI 1) dX7_restore_8 rfl ?_
  refine x_callS (mc' := 0) (ms' := 0) C dX7_restore_9 (c_X7_in hl hM (nI x) (nI 0) (nI 1)) mf_X7_in q3696 q3697 rfl rfl (Nat.le_of_ble_eq_true rfl) (by decide) rfl rfl (fun r h hP => ?_) (fun _ _ _ hX => False.elim hX)
  obtain ⟨rfl, hM⟩ := hP
  refine x_toi (nI 1) (bI_t ⟨nI_pos' (by omega), nI_le (b := 1) (by omega) (by decide)⟩) ?_
  refine x_iconst C (nI 1) dX7_restore_12 rfl ?_
  refine x_callV (mc' := 0) (ms' := 0) C dX7_restore_13 (c_X7_right_t hl hM (nI 1) (by have q_ := eF1.symm; subst q_; rfl)) mf_X7_right q3901 q3903 qs87 (Or.inl hM.1) rfl rfl rfl (Nat.le_of_ble_eq_true rfl) (by decide) rfl rfl (fun r h hP => ?_) (fun _ _ _ hX => False.elim hX)
  obtain ⟨rfl, hM⟩ := hP
  refine x_if_eq C 33 dX7_restore_16 (by decide) (fun c_16 => ?_) (fun c_16 => ?_)
  · exact absurd c_16 (by decide)
  · skip
    have c_16 := (xn_eqF 1 0 c_16 (by omega) (by omega))
    refine x_aload_n C dX7_restore_19 rfl ?_
    refine x_aload_n C dX7_restore_20 rfl ?_
    refine m_getA C dX7_restore_21 fl_X7_25_6 hM rfl ?_
    refine x_iload_n C dX7_restore_24 rfl ?_
    refine m_ldZ C dX7_restore_25 hM (j := x) rfl (by omega) ?_
    refine x_toi (nI 0) hs ?_
    refine x_iconst C (nI 2) dX7_restore_26 rfl ?_
    refine x_callV (mc' := 0) (ms' := 0) C dX7_restore_27 (c_X7_right_f hl hM (nI 2) (by have q_ := eF1.symm; subst q_; rfl) (by decide)) mf_X7_right q3901 q3903 qs87 (Or.inl hM.1) rfl rfl rfl (Nat.le_of_ble_eq_true rfl) (by decide) rfl rfl (fun r h hP => ?_) (fun _ _ _ hX => False.elim hX)
    obtain ⟨rfl, hM⟩ := hP
    obtain ⟨F2, eF2, hM⟩ := MW.nameF hM
    refine x_if_ne C 35 dX7_restore_30 (by decide) (fun c_30 => ?_) (fun c_30 => ?_)
    · exact absurd c_30 (by decide)
    · skip
      have c_30 := (xn_neF 0 0 c_30 (by omega) (by omega))
      refine x_iconst C (nI 0) dX7_restore_33 rfl ?_
      exact x_iret B0 dX7_restore_34 rfl (by have q_ := eF2.symm; subst q_; have q_ := eF1.symm; subst q_; exact ⟨rfl, hM⟩)
theorem c_X7_restore_t {G : xG} {l : Launch} (hl : l.stackTraces = false) {m : Nat} {A : Nat → Nat} {F n : Nat → Int32} {B : Nat → Nat → Int32} {h0 h : xAH} (hM : MW m A F n B h0 h) (x : Nat) (hx : x < 2) (hs : B 5 x = nI 1) : xM G l yX7_restore cX7_restore 3 (Option.some Jvm.ClassFile.FieldType.int) [] 2 0 0 [.ref m, .int (nI x)] h (fun r h2 => r = some (.int (sp_cp 0 (fun k => B 4 (212 * x + k)) n 212 5)) ∧ MW m A (va_up (va_up F 7 (nI 0)) 6 (nI 0)) (sp_cp 0 (fun k => B 4 (212 * x + k)) n 212) B h0 h2) xNo := by
  refine xcode_start (by decide) (Nat.le_of_ble_eq_true rfl) hl ?_
  intro E hE B0
  subst hE
  have C := B0.1
  show xW G E 3 0 0 h 0 [(0, .ref m), (1, .int (nI x))] []
  refine x_aload_n C dX7_restore_0 rfl ?_
  refine x_iconst C (nI 0) dX7_restore_1 rfl ?_
  refine m_putI C dX7_restore_2 fl_X7_85_6 hM rfl rfl ⟨rfl, rfl⟩ (fun h hM => ?_)
  obtain ⟨F1, eF1, hM⟩ := MW.nameF hM
  refine x_aload_n C dX7_restore_5 rfl ?_
  refine x_iload_n C dX7_restore_6 rfl ?_
  refine x_iconst C (nI 0) dX7_restore_7 rfl ?_
  refine x_iconst C (nI 1) dX7_restore_8 rfl ?_
  refine x_callS (mc' := 0) (ms' := 0) C dX7_restore_9 (c_X7_in hl hM (nI x) (nI 0) (nI 1)) mf_X7_in q3696 q3697 rfl rfl (Nat.le_of_ble_eq_true rfl) (by decide) rfl rfl (fun r h hP => ?_) (fun _ _ _ hX => False.elim hX)
  obtain ⟨rfl, hM⟩ := hP
  refine x_toi (nI 1) (bI_t ⟨nI_pos' (by omega), nI_le (b := 1) (by omega) (by decide)⟩) ?_
  refine x_iconst C (nI 1) dX7_restore_12 rfl ?_
  refine x_callV (mc' := 0) (ms' := 0) C dX7_restore_13 (c_X7_right_t hl hM (nI 1) (by have q_ := eF1.symm; subst q_; rfl)) mf_X7_right q3901 q3903 qs87 (Or.inl hM.1) rfl rfl rfl (Nat.le_of_ble_eq_true rfl) (by decide) rfl rfl (fun r h hP => ?_) (fun _ _ _ hX => False.elim hX)
  obtain ⟨rfl, hM⟩ := hP
  refine x_if_eq C 33 dX7_restore_16 (by decide) (fun c_16 => ?_) (fun c_16 => ?_)
  · exact absurd c_16 (by decide)
  · skip
    have c_16 := (xn_eqF 1 0 c_16 (by omega) (by omega))
    refine x_aload_n C dX7_restore_19 rfl ?_
    refine x_aload_n C dX7_restore_20 rfl ?_
    refine m_getA C dX7_restore_21 fl_X7_25_6 hM rfl ?_
    refine x_iload_n C dX7_restore_24 rfl ?_
    refine m_ldZ C dX7_restore_25 hM (j := x) rfl (by omega) ?_
    refine x_toi (nI 1) hs ?_
    refine x_iconst C (nI 2) dX7_restore_26 rfl ?_
    refine x_callV (mc' := 0) (ms' := 0) C dX7_restore_27 (c_X7_right_t hl hM (nI 2) (by have q_ := eF1.symm; subst q_; rfl)) mf_X7_right q3901 q3903 qs87 (Or.inl hM.1) rfl rfl rfl (Nat.le_of_ble_eq_true rfl) (by decide) rfl rfl (fun r h hP => ?_) (fun _ _ _ hX => False.elim hX)
    obtain ⟨rfl, hM⟩ := hP
    refine x_if_ne C 35 dX7_restore_30 (by decide) (fun c_30 => ?_) (fun c_30 => ?_)
    · skip
      have c_30 := (xn_neT 1 0 c_30 (by omega) (by omega))
      refine x_iconst C (nI 0) dX7_restore_35 rfl ?_
      refine x_istore_n C dX7_restore_36 (by decide) rfl ?_
      have L37 : ∀ (d : Nat) (k : Nat), 212 - k = d → (k ≤ 212) → ∀ h, MW m A F1 (sp_cp 0 (fun k => B 4 (212 * x + k)) n k) B h0 h → xW G E 3 0 0 h 37 [(0, .ref m), (1, .int (nI x)), (2, .int (nI k))] [] := by
        intro d
        induction d using Nat.strongRecOn with | _ d ih37 => ?_
        intro k hd37 hk h hM
        refine x_iload_n C dX7_restore_37 rfl ?_
        refine x_sipush C (nI 212) dX7_restore_38 rfl ?_
        refine x_icmp_ge C 68 dX7_restore_41 (by decide) (fun c_41 => ?_) (fun c_41 => ?_)
        · skip
          have c_41 := (xn_geT k 212 c_41 (by omega) (by omega))
          obtain rfl : 212 = k := (by omega)
          refine x_aload_n C dX7_restore_68 rfl ?_
          refine x_iconst C (nI 0) dX7_restore_69 rfl ?_
          refine m_putI C dX7_restore_70 fl_X7_282_6 hM rfl rfl ⟨rfl, rfl⟩ (fun h hM => ?_)
          obtain ⟨F2, eF2, hM⟩ := MW.nameF hM
          refine x_aload_n C dX7_restore_73 rfl ?_
          refine m_getN C dX7_restore_74 fl_X7_7_6 hM ?_
          refine x_iconst C (nI 5) dX7_restore_77 rfl ?_
          refine m_ldN C dX7_restore_78 hM (j := 5) rfl (by omega) ?_
          exact x_iret B0 dX7_restore_79 rfl (by have q_ := eF2.symm; subst q_; have q_ := eF1.symm; subst q_; exact ⟨rfl, hM⟩)
        · skip
          have c_41 := (xn_geF k 212 c_41 (by omega) (by omega))
          refine x_aload_n C dX7_restore_44 rfl ?_
          refine m_getN C dX7_restore_45 fl_X7_7_6 hM ?_
          refine x_iload_n C dX7_restore_48 rfl ?_
          refine x_aload_n C dX7_restore_49 rfl ?_
          refine m_getA C dX7_restore_50 fl_X7_22_6 hM rfl ?_
          refine x_sipush C (nI 212) dX7_restore_53 rfl ?_
          refine x_iload_n C dX7_restore_56 rfl ?_
          refine x_imul C dX7_restore_57 ?_
          refine x_toi (nI (212 * x)) (pk_mul _ _) ?_
          refine x_iload_n C dX7_restore_58 rfl ?_
          refine x_iadd C dX7_restore_59 ?_
          refine x_toi (nI ((212 * x) + k)) (nI_add _ _) ?_
          refine m_ld C dX7_restore_60 hM rfl (j := (212 * x) + k) rfl (show _ < 424 from by omega) ?_
          refine m_stN C dX7_restore_61 hM (j := k) rfl (by omega) (fun h hM => ?_)
          obtain ⟨n3, en3, hM⟩ := MW.nameN hM
          refine x_iinc C (nI (k + 1)) dX7_restore_62 rfl (nI_add _ 1) (by decide) rfl ?_
          refine x_goto C 37 dX7_restore_65 (by decide) ?_
          refine x_locs2 [(0, .ref m), (1, .int (nI x)), (2, .int (nI (k + 1)))] ⟨rfl, rfl, rfl, trivial⟩ ?_
          exact ih37 _ (by omega) (k + 1) rfl (by omega) h (by have q_ := en3.symm; subst q_; show MW m A _ (va_up (sp_cp 0 (fun k => B 4 (212 * x + k)) n k) (0 + k) (B 4 (212 * x + k))) B h0 h; rw [Nat.zero_add]; exact hM)
      refine x_locs2 [(0, .ref m), (1, .int (nI x)), (2, .int (nI 0))] ⟨rfl, rfl, rfl, trivial⟩ ?_
      exact L37 _ 0 rfl (by omega) h (by have q_ := eF1.symm; subst q_; exact hM)
    · exact absurd c_30 (by decide)
