/-! ===== the reference: setups ===== -/
theorem c_X7_readsPlace_s {G : xG} {l : Launch} (hl : l.stackTraces = false) {m : Nat} {A : Nat → Nat} {F n : Nat → Int32} {B : Nat → Nat → Int32} {h0 h : xAH} (hM : MW m A F n B h0 h) (hP : Pok F) (hN : Nok n) : xM G l yX7_readsPlace cX7_readsPlace 2 (Option.none : Option Jvm.ClassFile.FieldType) [] 5 0 0 [.ref m, .int (nI 1)] h (fun r h2 => r = none ∧ MW m A (sp_place (B 9) n F true) n B h0 h2) xNo := by
  refine xcode_start (by decide) (Nat.le_of_ble_eq_true rfl) hl ?_
  intro E hE B0
  subst hE
  have C := B0.1
  have hq6 := hN.1.2; have hq7 := hN.2.1.2; have hq8 := hN.2.2.2
  show xW G E 2 0 0 h 0 [(0, .ref m), (1, .int (nI 1))] []
  refine x_aload_n C dX7_readsPlace_0 rfl ?_
  refine x_aload_n C dX7_readsPlace_1 rfl ?_
  refine x_callV (mc' := 0) (ms' := 0) C dX7_readsPlace_2 (c_X7_looksAtName hl hM hP) mf_X7_looksAtName q3742 q3744 qs75 (Or.inl hM.1) rfl rfl rfl (Nat.le_of_ble_eq_true rfl) (by decide) rfl rfl (fun r h hP => ?_) (fun _ _ _ hX => False.elim hX)
  obtain ⟨rfl, hM⟩ := hP
  obtain ⟨F1, eF1, hM⟩ := MW.nameF hM
  have hP_F1 : Pok F1 := by rw [eF1]; exact hP.lname
  refine m_putI C dX7_readsPlace_5 fl_X7_229_6 hM rfl rfl ⟨rfl, rfl⟩ (fun h hM => ?_)
  obtain ⟨F2, eF2, hM⟩ := MW.nameF hM
  have hP_F2 : Pok F2 := by rw [eF2]; exact hP_F1.up _ (by decide) (by decide) (by decide)
  have J48 : ∀ (x : Bool), (x = decide (¬ F2 17 = 0 ∨ oI (sp_find n 16 (F2 19) (cn (n 6)) 0) = -1)) → ∀ h, MW m A F2 n B h0 h → xW G E 2 0 0 h 48 [(0, .ref m), (1, .int (nI 1))] [.int (bI x), .ref m] := by
    intro x ex h hM
    refine x_iconst C (nI 3) dX7_readsPlace_48 rfl ?_
    refine x_callV (mc' := 0) (ms' := 0) C dX7_readsPlace_49 (c_X7_must hl hM x (nI 3)) mf_X7_must q3709 q3711 qs67 (Or.inl hM.1) rfl rfl rfl (Nat.le_of_ble_eq_true rfl) (by decide) rfl rfl (fun r h hP => ?_) (fun _ _ _ hX => False.elim hX)
    obtain ⟨rfl, hM⟩ := hP
    obtain ⟨F3, eF3, hM⟩ := MW.nameF hM
    have hP_F3 : Pok F3 := by rw [eF3]; exact hP_F2.must _ _
    refine x_pop C dX7_readsPlace_52 rfl ?_
    refine x_aload_n C dX7_readsPlace_53 rfl ?_
    refine x_callV (mc' := 0) (ms' := 0) C dX7_readsPlace_54 (c_X7_goesOn hl hM hP_F3) mf_X7_goesOn q3713 q3715 qs68 (Or.inl hM.1) rfl rfl rfl (Nat.le_of_ble_eq_true rfl) (by decide) rfl rfl (fun r h hP => ?_) (fun _ _ _ hX => False.elim hX)
    obtain ⟨rfl, hM⟩ := hP
    obtain ⟨F4, eF4, hM⟩ := MW.nameF hM
    have hP_F4 : Pok F4 := by rw [eF4]; exact hP_F3.on _
    refine x_aload_n C dX7_readsPlace_57 rfl ?_
    refine x_aload_n C dX7_readsPlace_58 rfl ?_
    refine x_iconst C (nI 0) dX7_readsPlace_59 rfl ?_
    refine x_bipush C (nI 9) dX7_readsPlace_60 rfl ?_
    refine x_callV (mc' := 0) (ms' := 0) C dX7_readsPlace_62 (c_X7_number hl hM hP_F4 (nI 0) (nI 9)) mf_X7_number q3717 q3719 qs69 (Or.inl hM.1) rfl rfl rfl (Nat.le_of_ble_eq_true rfl) (by decide) rfl rfl (fun r h hP => ?_) (fun _ _ _ hX => False.elim hX)
    obtain ⟨rfl, hM⟩ := hP
    obtain ⟨F5, eF5, hM⟩ := MW.nameF hM
    have hP_F5 : Pok F5 := by rw [eF5]; exact hP_F4.num _ _ _
    refine m_putI C dX7_readsPlace_65 fl_X7_241_6 hM rfl rfl ⟨rfl, rfl⟩ (fun h hM => ?_)
    obtain ⟨F6, eF6, hM⟩ := MW.nameF hM
    have hP_F6 : Pok F6 := by rw [eF6]; exact hP_F5.up _ (by decide) (by decide) (by decide)
    have J87 : ∀ (v : Int32), (v = if sp_look F6 (nI 0) (nI 9) 17 = 0 then sp_look F6 (nI 0) (nI 9) 16 else nI 0) → ∀ h, MW m A (sp_look F6 (nI 0) (nI 9)) n B h0 h → xW G E 2 0 0 h 87 [(0, .ref m), (1, .int (nI 1))] [.int v, .ref m] := by
      intro v ev h hM
      refine m_putI C dX7_readsPlace_87 fl_X7_244_6 hM rfl rfl ⟨rfl, rfl⟩ (fun h hM => ?_)
      obtain ⟨F7, eF7, hM⟩ := MW.nameF hM
      have hP_F7 : Pok F7 := by rw [eF7]; exact (hP_F6.look _ _).up _ (by decide) (by decide) (by decide)
      have J118 : ∀ (z : Bool), (z = decide (¬ F7 17 = 0 ∨ sp_taken n (cn (n 6)) (cn (n 7)) (F7 20) (F7 21) = false)) → ∀ h, MW m A F7 n B h0 h → xW G E 2 0 0 h 118 [(0, .ref m), (1, .int (nI 1))] [.int (bI z), .ref m] := by
        intro z ez h hM
        refine x_iconst C (nI 4) dX7_readsPlace_118 rfl ?_
        refine x_callV (mc' := 0) (ms' := 0) C dX7_readsPlace_119 (c_X7_must hl hM z (nI 4)) mf_X7_must q3709 q3711 qs67 (Or.inl hM.1) rfl rfl rfl (Nat.le_of_ble_eq_true rfl) (by decide) rfl rfl (fun r h hP => ?_) (fun _ _ _ hX => False.elim hX)
        obtain ⟨rfl, hM⟩ := hP
        obtain ⟨F8, eF8, hM⟩ := MW.nameF hM
        have hP_F8 : Pok F8 := by rw [eF8]; exact hP_F7.must _ _
        refine x_pop C dX7_readsPlace_122 rfl ?_
        refine x_aload_n C dX7_readsPlace_123 rfl ?_
        refine x_callV (mc' := 0) (ms' := 0) C dX7_readsPlace_124 (c_X7_goesOn hl hM hP_F8) mf_X7_goesOn q3713 q3715 qs68 (Or.inl hM.1) rfl rfl rfl (Nat.le_of_ble_eq_true rfl) (by decide) rfl rfl (fun r h hP => ?_) (fun _ _ _ hX => False.elim hX)
        obtain ⟨rfl, hM⟩ := hP
        obtain ⟨F9, eF9, hM⟩ := MW.nameF hM
        have hP_F9 : Pok F9 := by rw [eF9]; exact hP_F8.on _
        exact x_ret B0 dX7_readsPlace_127 rfl (by subst eF9; subst eF8; subst ez; subst eF7; subst ev; subst eF6; subst eF5; subst eF4; subst eF3; subst ex; subst eF2; subst eF1; unfold sp_place sp_place2 sp_place1; exact ⟨rfl, hM⟩)
      refine x_aload_n C dX7_readsPlace_90 rfl ?_
      refine x_aload_n C dX7_readsPlace_91 rfl ?_
      refine m_getI C dX7_readsPlace_92 fl_X7_198_6 hM rfl ?_
      refine x_if_ne C 113 dX7_readsPlace_95 (by decide) (fun c_95 => ?_) (fun c_95 => ?_)
      · skip
        refine x_iconst C (nI 1) dX7_readsPlace_113 rfl ?_
        refine x_goto C 118 dX7_readsPlace_114 (by decide) ?_
        refine x_locs2 [(0, .ref m), (1, .int (nI 1))] ⟨rfl, rfl, trivial⟩ ?_
        exact J118 true (by first | exact (decide_eq_true (Or.inl c_95)).symm | exact (decide_eq_true (Or.inr (by simpa using hb_107))).symm | exact (decide_eq_false (fun q => Or.elim q (fun q => q c_95) (by simpa using hb_107))).symm) h (by exact hM)
      · skip
        refine x_aload_n C dX7_readsPlace_98 rfl ?_
        refine x_aload_n C dX7_readsPlace_99 rfl ?_
        refine m_getI C dX7_readsPlace_100 fl_X7_241_6 hM rfl ?_
        refine x_aload_n C dX7_readsPlace_103 rfl ?_
        refine m_getI C dX7_readsPlace_104 fl_X7_244_6 hM rfl ?_
        refine x_callV (mc' := 0) (ms' := 0) C dX7_readsPlace_107 (c_X7_isTaken hl hM (cn (n 6)) (cn (n 7)) (by subst eF7; subst ev; subst eF6; subst eF5; subst eF4; subst eF3; subst ex; subst eF2; subst eF1; exact hN.1.1) (by omega) (by subst eF7; subst ev; subst eF6; subst eF5; subst eF4; subst eF3; subst ex; subst eF2; subst eF1; exact hN.2.1.1) (by omega) (F7 20) (F7 21)) mf_X7_isTaken q3766 q3768 qs81 (Or.inl hM.1) rfl rfl rfl (Nat.le_of_ble_eq_true rfl) (by decide) rfl rfl (fun r h hP => ?_) (fun _ _ _ hX => False.elim hX)
        obtain ⟨rfl, hM⟩ := hP
        by_cases hb_107 : sp_taken n (cn (n 6)) (cn (n 7)) (F7 20) (F7 21) = true
        · refine x_toi (nI 1) (bI_T hb_107) ?_
          refine x_if_ne C 117 dX7_readsPlace_110 (by decide) (fun c_110 => ?_) (fun c_110 => ?_)
          · skip
            have c_110 := (xn_neT 1 0 c_110 (by omega) (by omega))
            refine x_iconst C (nI 0) dX7_readsPlace_117 rfl ?_
            refine x_locs2 [(0, .ref m), (1, .int (nI 1))] ⟨rfl, rfl, trivial⟩ ?_
            exact J118 false (by first | exact (decide_eq_true (Or.inl c_95)).symm | exact (decide_eq_true (Or.inr (by simpa using hb_107))).symm | exact (decide_eq_false (fun q => Or.elim q (fun q => q c_95) (by simpa using hb_107))).symm) h (by exact hM)
          · exact absurd c_110 (by decide)
        · refine x_toi (nI 0) (bI_Fn hb_107) ?_
          refine x_if_ne C 117 dX7_readsPlace_110 (by decide) (fun c_110 => ?_) (fun c_110 => ?_)
          · exact absurd c_110 (by decide)
          · skip
            have c_110 := (xn_neF 0 0 c_110 (by omega) (by omega))
            refine x_iconst C (nI 1) dX7_readsPlace_113 rfl ?_
            refine x_goto C 118 dX7_readsPlace_114 (by decide) ?_
            refine x_locs2 [(0, .ref m), (1, .int (nI 1))] ⟨rfl, rfl, trivial⟩ ?_
            exact J118 true (by first | exact (decide_eq_true (Or.inl c_95)).symm | exact (decide_eq_true (Or.inr (by simpa using hb_107))).symm | exact (decide_eq_false (fun q => Or.elim q (fun q => q c_95) (by simpa using hb_107))).symm) h (by exact hM)
    refine x_aload_n C dX7_readsPlace_68 rfl ?_
    refine x_aload_n C dX7_readsPlace_69 rfl ?_
    refine x_iconst C (nI 0) dX7_readsPlace_70 rfl ?_
    refine x_bipush C (nI 9) dX7_readsPlace_71 rfl ?_
    refine x_callV (mc' := 0) (ms' := 0) C dX7_readsPlace_73 (c_X7_looksAt hl hM hP_F6 (nI 0) (nI 9)) mf_X7_looksAt q3721 q3723 qs70 (Or.inl hM.1) rfl rfl rfl (Nat.le_of_ble_eq_true rfl) (by decide) rfl rfl (fun r h hP => ?_) (fun _ _ _ hX => False.elim hX)
    obtain ⟨rfl, hM⟩ := hP
    obtain ⟨F10, eF10, hM⟩ := MW.nameF hM
    have hP_F10 : Pok F10 := by rw [eF10]; exact hP_F6.look _ _
    by_cases hb_76 : sp_look F6 (nI 0) (nI 9) 17 = 0
    · refine x_toi (nI 1) (bI_t hb_76) ?_
      refine x_if_eq C 86 dX7_readsPlace_76 (by decide) (fun c_76 => ?_) (fun c_76 => ?_)
      · exact absurd c_76 (by decide)
      refine x_aload_n C dX7_readsPlace_79 rfl ?_
      refine m_getI C dX7_readsPlace_80 fl_X7_195_6 hM rfl ?_
      refine x_goto C 87 dX7_readsPlace_83 (by decide) ?_
      refine x_locs2 [(0, .ref m), (1, .int (nI 1))] ⟨rfl, rfl, trivial⟩ ?_
      exact J87 (F10 16) (by subst eF10; first | exact (if_pos hb_76).symm | exact (if_neg hb_76).symm) h (by subst eF10; exact hM)
    · refine x_toi (nI 0) (bI_f hb_76) ?_
      refine x_if_eq C 86 dX7_readsPlace_76 (by decide) (fun c_76 => ?_) (fun c_76 => ?_)
      rotate_left
      · exact absurd c_76 (by decide)
      refine x_iconst C (nI 0) dX7_readsPlace_86 rfl ?_
      refine x_locs2 [(0, .ref m), (1, .int (nI 1))] ⟨rfl, rfl, trivial⟩ ?_
      exact J87 (nI 0) (by subst eF10; first | exact (if_pos hb_76).symm | exact (if_neg hb_76).symm) h (by subst eF10; exact hM)
  refine x_aload_n C dX7_readsPlace_8 rfl ?_
  refine x_aload_n C dX7_readsPlace_9 rfl ?_
  refine m_getI C dX7_readsPlace_10 fl_X7_198_6 hM rfl ?_
  refine x_if_ne C 43 dX7_readsPlace_13 (by decide) (fun c_13 => ?_) (fun c_13 => ?_)
  · skip
    refine x_iconst C (nI 1) dX7_readsPlace_43 rfl ?_
    refine x_goto C 48 dX7_readsPlace_44 (by decide) ?_
    refine x_locs2 [(0, .ref m), (1, .int (nI 1))] ⟨rfl, rfl, trivial⟩ ?_
    exact J48 true (by first | exact (decide_eq_true (Or.inl c_13)).symm | exact (decide_eq_true (Or.inr c_40)).symm | exact (decide_eq_false (fun q => Or.elim q (fun q => q c_13) c_40)).symm) h (by exact hM)
  · skip
    refine x_iload_n C dX7_readsPlace_16 rfl ?_
    refine x_if_eq C 31 dX7_readsPlace_17 (by decide) (fun c_17 => ?_) (fun c_17 => ?_)
    · exact absurd c_17 (by decide)
    · skip
      have c_17 := (xn_eqF 1 0 c_17 (by omega) (by omega))
      refine x_aload_n C dX7_readsPlace_20 rfl ?_
      refine x_aload_n C dX7_readsPlace_21 rfl ?_
      refine m_getI C dX7_readsPlace_22 fl_X7_229_6 hM rfl ?_
      refine x_callV (mc' := 0) (ms' := 0) C dX7_readsPlace_25 (c_X7_streetNamed hl hM (cn (n 6)) (by subst eF2; subst eF1; exact hN.1.1) (by omega) (F2 19)) mf_X7_streetNamed q3750 q3752 qs77 (Or.inl hM.1) rfl rfl rfl (Nat.le_of_ble_eq_true rfl) (by decide) rfl rfl (fun r h hP => ?_) (fun _ _ _ hX => False.elim hX)
      obtain ⟨rfl, hM⟩ := hP
      refine x_goto C 39 dX7_readsPlace_28 (by decide) ?_
      refine x_iconst C (-1) dX7_readsPlace_39 rfl ?_
      refine x_icmp_ne C 47 dX7_readsPlace_40 (by decide) (fun c_40 => ?_) (fun c_40 => ?_)
      · skip
        refine x_iconst C (nI 0) dX7_readsPlace_47 rfl ?_
        refine x_locs2 [(0, .ref m), (1, .int (nI 1))] ⟨rfl, rfl, trivial⟩ ?_
        exact J48 false (by first | exact (decide_eq_true (Or.inl c_13)).symm | exact (decide_eq_true (Or.inr c_40)).symm | exact (decide_eq_false (fun q => Or.elim q (fun q => q c_13) c_40)).symm) h (by exact hM)
      · skip
        refine x_iconst C (nI 1) dX7_readsPlace_43 rfl ?_
        refine x_goto C 48 dX7_readsPlace_44 (by decide) ?_
        refine x_locs2 [(0, .ref m), (1, .int (nI 1))] ⟨rfl, rfl, trivial⟩ ?_
        exact J48 true (by first | exact (decide_eq_true (Or.inl c_13)).symm | exact (decide_eq_true (Or.inr c_40)).symm | exact (decide_eq_false (fun q => Or.elim q (fun q => q c_13) c_40)).symm) h (by exact hM)
theorem c_X7_readsPlace_g {G : xG} {l : Launch} (hl : l.stackTraces = false) {m : Nat} {A : Nat → Nat} {F n : Nat → Int32} {B : Nat → Nat → Int32} {h0 h : xAH} (hM : MW m A F n B h0 h) (hP : Pok F) (hN : Nok n) : xM G l yX7_readsPlace cX7_readsPlace 2 (Option.none : Option Jvm.ClassFile.FieldType) [] 5 0 0 [.ref m, .int (nI 0)] h (fun r h2 => r = none ∧ MW m A (sp_place (B 9) n F false) n B h0 h2) xNo := by
  refine xcode_start (by decide) (Nat.le_of_ble_eq_true rfl) hl ?_
  intro E hE B0
  subst hE
  have C := B0.1
  have hq6 := hN.1.2; have hq7 := hN.2.1.2; have hq8 := hN.2.2.2
  show xW G E 2 0 0 h 0 [(0, .ref m), (1, .int (nI 0))] []
  refine x_aload_n C dX7_readsPlace_0 rfl ?_
  refine x_aload_n C dX7_readsPlace_1 rfl ?_
  refine x_callV (mc' := 0) (ms' := 0) C dX7_readsPlace_2 (c_X7_looksAtName hl hM hP) mf_X7_looksAtName q3742 q3744 qs75 (Or.inl hM.1) rfl rfl rfl (Nat.le_of_ble_eq_true rfl) (by decide) rfl rfl (fun r h hP => ?_) (fun _ _ _ hX => False.elim hX)
  obtain ⟨rfl, hM⟩ := hP
  obtain ⟨F1, eF1, hM⟩ := MW.nameF hM
  have hP_F1 : Pok F1 := by rw [eF1]; exact hP.lname
  refine m_putI C dX7_readsPlace_5 fl_X7_229_6 hM rfl rfl ⟨rfl, rfl⟩ (fun h hM => ?_)
  obtain ⟨F2, eF2, hM⟩ := MW.nameF hM
  have hP_F2 : Pok F2 := by rw [eF2]; exact hP_F1.up _ (by decide) (by decide) (by decide)
  have J48 : ∀ (x : Bool), (x = decide (¬ F2 17 = 0 ∨ oI (sp_find n 88 (F2 19) (cn (n 7)) 0) = -1)) → ∀ h, MW m A F2 n B h0 h → xW G E 2 0 0 h 48 [(0, .ref m), (1, .int (nI 0))] [.int (bI x), .ref m] := by
    intro x ex h hM
    refine x_iconst C (nI 3) dX7_readsPlace_48 rfl ?_
    refine x_callV (mc' := 0) (ms' := 0) C dX7_readsPlace_49 (c_X7_must hl hM x (nI 3)) mf_X7_must q3709 q3711 qs67 (Or.inl hM.1) rfl rfl rfl (Nat.le_of_ble_eq_true rfl) (by decide) rfl rfl (fun r h hP => ?_) (fun _ _ _ hX => False.elim hX)
    obtain ⟨rfl, hM⟩ := hP
    obtain ⟨F3, eF3, hM⟩ := MW.nameF hM
    have hP_F3 : Pok F3 := by rw [eF3]; exact hP_F2.must _ _
    refine x_pop C dX7_readsPlace_52 rfl ?_
    refine x_aload_n C dX7_readsPlace_53 rfl ?_
    refine x_callV (mc' := 0) (ms' := 0) C dX7_readsPlace_54 (c_X7_goesOn hl hM hP_F3) mf_X7_goesOn q3713 q3715 qs68 (Or.inl hM.1) rfl rfl rfl (Nat.le_of_ble_eq_true rfl) (by decide) rfl rfl (fun r h hP => ?_) (fun _ _ _ hX => False.elim hX)
    obtain ⟨rfl, hM⟩ := hP
    obtain ⟨F4, eF4, hM⟩ := MW.nameF hM
    have hP_F4 : Pok F4 := by rw [eF4]; exact hP_F3.on _
    refine x_aload_n C dX7_readsPlace_57 rfl ?_
    refine x_aload_n C dX7_readsPlace_58 rfl ?_
    refine x_iconst C (nI 0) dX7_readsPlace_59 rfl ?_
    refine x_bipush C (nI 9) dX7_readsPlace_60 rfl ?_
    refine x_callV (mc' := 0) (ms' := 0) C dX7_readsPlace_62 (c_X7_number hl hM hP_F4 (nI 0) (nI 9)) mf_X7_number q3717 q3719 qs69 (Or.inl hM.1) rfl rfl rfl (Nat.le_of_ble_eq_true rfl) (by decide) rfl rfl (fun r h hP => ?_) (fun _ _ _ hX => False.elim hX)
    obtain ⟨rfl, hM⟩ := hP
    obtain ⟨F5, eF5, hM⟩ := MW.nameF hM
    have hP_F5 : Pok F5 := by rw [eF5]; exact hP_F4.num _ _ _
    refine m_putI C dX7_readsPlace_65 fl_X7_241_6 hM rfl rfl ⟨rfl, rfl⟩ (fun h hM => ?_)
    obtain ⟨F6, eF6, hM⟩ := MW.nameF hM
    have hP_F6 : Pok F6 := by rw [eF6]; exact hP_F5.up _ (by decide) (by decide) (by decide)
    have J87 : ∀ (v : Int32), (v = if sp_look F6 (nI 0) (nI 9) 17 = 0 then sp_look F6 (nI 0) (nI 9) 16 else nI 0) → ∀ h, MW m A (sp_look F6 (nI 0) (nI 9)) n B h0 h → xW G E 2 0 0 h 87 [(0, .ref m), (1, .int (nI 0))] [.int v, .ref m] := by
      intro v ev h hM
      refine m_putI C dX7_readsPlace_87 fl_X7_244_6 hM rfl rfl ⟨rfl, rfl⟩ (fun h hM => ?_)
      obtain ⟨F7, eF7, hM⟩ := MW.nameF hM
      have hP_F7 : Pok F7 := by rw [eF7]; exact (hP_F6.look _ _).up _ (by decide) (by decide) (by decide)
      have J118 : ∀ (z : Bool), (z = decide (¬ F7 17 = 0 ∨ sp_taken n (cn (n 6)) (cn (n 7)) (F7 20) (F7 21) = false)) → ∀ h, MW m A F7 n B h0 h → xW G E 2 0 0 h 118 [(0, .ref m), (1, .int (nI 0))] [.int (bI z), .ref m] := by
        intro z ez h hM
        refine x_iconst C (nI 4) dX7_readsPlace_118 rfl ?_
        refine x_callV (mc' := 0) (ms' := 0) C dX7_readsPlace_119 (c_X7_must hl hM z (nI 4)) mf_X7_must q3709 q3711 qs67 (Or.inl hM.1) rfl rfl rfl (Nat.le_of_ble_eq_true rfl) (by decide) rfl rfl (fun r h hP => ?_) (fun _ _ _ hX => False.elim hX)
        obtain ⟨rfl, hM⟩ := hP
        obtain ⟨F8, eF8, hM⟩ := MW.nameF hM
        have hP_F8 : Pok F8 := by rw [eF8]; exact hP_F7.must _ _
        refine x_pop C dX7_readsPlace_122 rfl ?_
        refine x_aload_n C dX7_readsPlace_123 rfl ?_
        refine x_callV (mc' := 0) (ms' := 0) C dX7_readsPlace_124 (c_X7_goesOn hl hM hP_F8) mf_X7_goesOn q3713 q3715 qs68 (Or.inl hM.1) rfl rfl rfl (Nat.le_of_ble_eq_true rfl) (by decide) rfl rfl (fun r h hP => ?_) (fun _ _ _ hX => False.elim hX)
        obtain ⟨rfl, hM⟩ := hP
        obtain ⟨F9, eF9, hM⟩ := MW.nameF hM
        have hP_F9 : Pok F9 := by rw [eF9]; exact hP_F8.on _
        exact x_ret B0 dX7_readsPlace_127 rfl (by subst eF9; subst eF8; subst ez; subst eF7; subst ev; subst eF6; subst eF5; subst eF4; subst eF3; subst ex; subst eF2; subst eF1; unfold sp_place sp_place2 sp_place1; exact ⟨rfl, hM⟩)
      refine x_aload_n C dX7_readsPlace_90 rfl ?_
      refine x_aload_n C dX7_readsPlace_91 rfl ?_
      refine m_getI C dX7_readsPlace_92 fl_X7_198_6 hM rfl ?_
      refine x_if_ne C 113 dX7_readsPlace_95 (by decide) (fun c_95 => ?_) (fun c_95 => ?_)
      · skip
        refine x_iconst C (nI 1) dX7_readsPlace_113 rfl ?_
        refine x_goto C 118 dX7_readsPlace_114 (by decide) ?_
        refine x_locs2 [(0, .ref m), (1, .int (nI 0))] ⟨rfl, rfl, trivial⟩ ?_
        exact J118 true (by first | exact (decide_eq_true (Or.inl c_95)).symm | exact (decide_eq_true (Or.inr (by simpa using hb_107))).symm | exact (decide_eq_false (fun q => Or.elim q (fun q => q c_95) (by simpa using hb_107))).symm) h (by exact hM)
      · skip
        refine x_aload_n C dX7_readsPlace_98 rfl ?_
        refine x_aload_n C dX7_readsPlace_99 rfl ?_
        refine m_getI C dX7_readsPlace_100 fl_X7_241_6 hM rfl ?_
        refine x_aload_n C dX7_readsPlace_103 rfl ?_
        refine m_getI C dX7_readsPlace_104 fl_X7_244_6 hM rfl ?_
        refine x_callV (mc' := 0) (ms' := 0) C dX7_readsPlace_107 (c_X7_isTaken hl hM (cn (n 6)) (cn (n 7)) (by subst eF7; subst ev; subst eF6; subst eF5; subst eF4; subst eF3; subst ex; subst eF2; subst eF1; exact hN.1.1) (by omega) (by subst eF7; subst ev; subst eF6; subst eF5; subst eF4; subst eF3; subst ex; subst eF2; subst eF1; exact hN.2.1.1) (by omega) (F7 20) (F7 21)) mf_X7_isTaken q3766 q3768 qs81 (Or.inl hM.1) rfl rfl rfl (Nat.le_of_ble_eq_true rfl) (by decide) rfl rfl (fun r h hP => ?_) (fun _ _ _ hX => False.elim hX)
        obtain ⟨rfl, hM⟩ := hP
        by_cases hb_107 : sp_taken n (cn (n 6)) (cn (n 7)) (F7 20) (F7 21) = true
        · refine x_toi (nI 1) (bI_T hb_107) ?_
          refine x_if_ne C 117 dX7_readsPlace_110 (by decide) (fun c_110 => ?_) (fun c_110 => ?_)
          · skip
            have c_110 := (xn_neT 1 0 c_110 (by omega) (by omega))
            refine x_iconst C (nI 0) dX7_readsPlace_117 rfl ?_
            refine x_locs2 [(0, .ref m), (1, .int (nI 0))] ⟨rfl, rfl, trivial⟩ ?_
            exact J118 false (by first | exact (decide_eq_true (Or.inl c_95)).symm | exact (decide_eq_true (Or.inr (by simpa using hb_107))).symm | exact (decide_eq_false (fun q => Or.elim q (fun q => q c_95) (by simpa using hb_107))).symm) h (by exact hM)
          · exact absurd c_110 (by decide)
        · refine x_toi (nI 0) (bI_Fn hb_107) ?_
          refine x_if_ne C 117 dX7_readsPlace_110 (by decide) (fun c_110 => ?_) (fun c_110 => ?_)
          · exact absurd c_110 (by decide)
          · skip
            have c_110 := (xn_neF 0 0 c_110 (by omega) (by omega))
            refine x_iconst C (nI 1) dX7_readsPlace_113 rfl ?_
            refine x_goto C 118 dX7_readsPlace_114 (by decide) ?_
            refine x_locs2 [(0, .ref m), (1, .int (nI 0))] ⟨rfl, rfl, trivial⟩ ?_
            exact J118 true (by first | exact (decide_eq_true (Or.inl c_95)).symm | exact (decide_eq_true (Or.inr (by simpa using hb_107))).symm | exact (decide_eq_false (fun q => Or.elim q (fun q => q c_95) (by simpa using hb_107))).symm) h (by exact hM)
    refine x_aload_n C dX7_readsPlace_68 rfl ?_
    refine x_aload_n C dX7_readsPlace_69 rfl ?_
    refine x_iconst C (nI 0) dX7_readsPlace_70 rfl ?_
    refine x_bipush C (nI 9) dX7_readsPlace_71 rfl ?_
    refine x_callV (mc' := 0) (ms' := 0) C dX7_readsPlace_73 (c_X7_looksAt hl hM hP_F6 (nI 0) (nI 9)) mf_X7_looksAt q3721 q3723 qs70 (Or.inl hM.1) rfl rfl rfl (Nat.le_of_ble_eq_true rfl) (by decide) rfl rfl (fun r h hP => ?_) (fun _ _ _ hX => False.elim hX)
    obtain ⟨rfl, hM⟩ := hP
    obtain ⟨F10, eF10, hM⟩ := MW.nameF hM
    have hP_F10 : Pok F10 := by rw [eF10]; exact hP_F6.look _ _
    by_cases hb_76 : sp_look F6 (nI 0) (nI 9) 17 = 0
    · refine x_toi (nI 1) (bI_t hb_76) ?_
      refine x_if_eq C 86 dX7_readsPlace_76 (by decide) (fun c_76 => ?_) (fun c_76 => ?_)
      · exact absurd c_76 (by decide)
      refine x_aload_n C dX7_readsPlace_79 rfl ?_
      refine m_getI C dX7_readsPlace_80 fl_X7_195_6 hM rfl ?_
      refine x_goto C 87 dX7_readsPlace_83 (by decide) ?_
      refine x_locs2 [(0, .ref m), (1, .int (nI 0))] ⟨rfl, rfl, trivial⟩ ?_
      exact J87 (F10 16) (by subst eF10; first | exact (if_pos hb_76).symm | exact (if_neg hb_76).symm) h (by subst eF10; exact hM)
    · refine x_toi (nI 0) (bI_f hb_76) ?_
      refine x_if_eq C 86 dX7_readsPlace_76 (by decide) (fun c_76 => ?_) (fun c_76 => ?_)
      rotate_left
      · exact absurd c_76 (by decide)
      refine x_iconst C (nI 0) dX7_readsPlace_86 rfl ?_
      refine x_locs2 [(0, .ref m), (1, .int (nI 0))] ⟨rfl, rfl, trivial⟩ ?_
      exact J87 (nI 0) (by subst eF10; first | exact (if_pos hb_76).symm | exact (if_neg hb_76).symm) h (by subst eF10; exact hM)
  refine x_aload_n C dX7_readsPlace_8 rfl ?_
  refine x_aload_n C dX7_readsPlace_9 rfl ?_
  refine m_getI C dX7_readsPlace_10 fl_X7_198_6 hM rfl ?_
  refine x_if_ne C 43 dX7_readsPlace_13 (by decide) (fun c_13 => ?_) (fun c_13 => ?_)
  · skip
    refine x_iconst C (nI 1) dX7_readsPlace_43 rfl ?_
    refine x_goto C 48 dX7_readsPlace_44 (by decide) ?_
    refine x_locs2 [(0, .ref m), (1, .int (nI 0))] ⟨rfl, rfl, trivial⟩ ?_
    exact J48 true (by first | exact (decide_eq_true (Or.inl c_13)).symm | exact (decide_eq_true (Or.inr c_40)).symm | exact (decide_eq_false (fun q => Or.elim q (fun q => q c_13) c_40)).symm) h (by exact hM)
  · skip
    refine x_iload_n C dX7_readsPlace_16 rfl ?_
    refine x_if_eq C 31 dX7_readsPlace_17 (by decide) (fun c_17 => ?_) (fun c_17 => ?_)
    · skip
      have c_17 := (xn_eqT 0 0 c_17 (by omega) (by omega))
      refine x_aload_n C dX7_readsPlace_31 rfl ?_
      refine x_aload_n C dX7_readsPlace_32 rfl ?_
      refine m_getI C dX7_readsPlace_33 fl_X7_229_6 hM rfl ?_
      refine x_callV (mc' := 0) (ms' := 0) C dX7_readsPlace_36 (c_X7_gardenNamed hl hM (cn (n 7)) (by subst eF2; subst eF1; exact hN.2.1.1) (by omega) (F2 19)) mf_X7_gardenNamed q3758 q3760 qs79 (Or.inl hM.1) rfl rfl rfl (Nat.le_of_ble_eq_true rfl) (by decide) rfl rfl (fun r h hP => ?_) (fun _ _ _ hX => False.elim hX)
      obtain ⟨rfl, hM⟩ := hP
      refine x_iconst C (-1) dX7_readsPlace_39 rfl ?_
      refine x_icmp_ne C 47 dX7_readsPlace_40 (by decide) (fun c_40 => ?_) (fun c_40 => ?_)
      · skip
        refine x_iconst C (nI 0) dX7_readsPlace_47 rfl ?_
        refine x_locs2 [(0, .ref m), (1, .int (nI 0))] ⟨rfl, rfl, trivial⟩ ?_
        exact J48 false (by first | exact (decide_eq_true (Or.inl c_13)).symm | exact (decide_eq_true (Or.inr c_40)).symm | exact (decide_eq_false (fun q => Or.elim q (fun q => q c_13) c_40)).symm) h (by exact hM)
      · skip
        refine x_iconst C (nI 1) dX7_readsPlace_43 rfl ?_
        refine x_goto C 48 dX7_readsPlace_44 (by decide) ?_
        refine x_locs2 [(0, .ref m), (1, .int (nI 0))] ⟨rfl, rfl, trivial⟩ ?_
        exact J48 true (by first | exact (decide_eq_true (Or.inl c_13)).symm | exact (decide_eq_true (Or.inr c_40)).symm | exact (decide_eq_false (fun q => Or.elim q (fun q => q c_13) c_40)).symm) h (by exact hM)
    · exact absurd c_17 (by decide)
