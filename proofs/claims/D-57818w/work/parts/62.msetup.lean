/-! ===== the reference: streets, gardens, carts, the setup ===== -/
theorem c_X7_readsStreet {G : xG} {l : Launch} (hl : l.stackTraces = false) {m : Nat} {A : Nat → Nat} {F n : Nat → Int32} {B : Nat → Nat → Int32} {h0 h : xAH} (hM : MW m A F n B h0 h) (hP : Pok F) (hW : xWd G) (hN : Nok n) : xM G l yX7_readsStreet cX7_readsStreet 4 (Option.none : Option Jvm.ClassFile.FieldType) [] 6 0 0 [.ref m] h (fun r h2 => r = none ∧ MW m A (sp_streetF (B 9) n F) (sp_streetN (B 9) n F) B h0 h2) xNo := by
  refine xcode_start (by decide) (Nat.le_of_ble_eq_true rfl) hl ?_
  intro E hE B0
  subst hE
  have C := B0.1
  have hq6 := hN.1.2; have hq7 := hN.2.1.2; have hq8 := hN.2.2.2
  show xW G E 4 0 0 h 0 [(0, .ref m)] []
  refine x_aload_n C dX7_readsStreet_0 rfl ?_
  refine x_aload_n C dX7_readsStreet_1 rfl ?_
  refine x_ldcS C 24 dX7_readsStreet_2 rfl ?_
  refine x_callV (mc' := 0) (ms' := 0) C dX7_readsStreet_4 (c_X7_isWord hl hM hP hW (hW.txt 24 _ rfl)) mf_X7_isWord q3705 q3707 qs66 (Or.inl hM.1) rfl rfl rfl (Nat.le_of_ble_eq_true rfl) (by decide) rfl rfl (fun r h hP => ?_) (fun _ _ _ hX => False.elim hX)
  obtain ⟨rfl, hM⟩ := hP
  refine x_iconst C (nI 1) dX7_readsStreet_7 rfl ?_
  refine x_callV (mc' := 0) (ms' := 0) C dX7_readsStreet_8 (c_X7_must hl hM (sp_isWord (B 9) F (tx "street")) (nI 1)) mf_X7_must q3709 q3711 qs67 (Or.inl hM.1) rfl rfl rfl (Nat.le_of_ble_eq_true rfl) (by decide) rfl rfl (fun r h hP => ?_) (fun _ _ _ hX => False.elim hX)
  obtain ⟨rfl, hM⟩ := hP
  obtain ⟨F1, eF1, hM⟩ := MW.nameF hM
  have hP_F1 : Pok F1 := by rw [eF1]; exact hP.must _ _
  refine x_pop C dX7_readsStreet_11 rfl ?_
  refine x_aload_n C dX7_readsStreet_12 rfl ?_
  refine x_aload_n C dX7_readsStreet_13 rfl ?_
  refine m_getN C dX7_readsStreet_14 fl_X7_7_6 hM ?_
  refine x_bipush C (nI 6) dX7_readsStreet_17 rfl ?_
  refine m_ldN C dX7_readsStreet_19 hM (j := 6) rfl (by omega) ?_
  refine x_bipush C (nI 8) dX7_readsStreet_20 rfl ?_
  refine x_sel_icmp_ge C 29 30 dX7_readsStreet_22 (by decide) dX7_readsStreet_25 dX7_readsStreet_26 (by decide) dX7_readsStreet_29 rfl ?_
  refine x_iconst C (nI 5) dX7_readsStreet_30 rfl ?_
  refine x_callV (mc' := 0) (ms' := 0) C dX7_readsStreet_31 (c_X7_must hl hM (decide ((n 6) < (nI 8))) (nI 5)) mf_X7_must q3709 q3711 qs67 (Or.inl hM.1) rfl rfl rfl (Nat.le_of_ble_eq_true rfl) (by decide) rfl rfl (fun r h hP => ?_) (fun _ _ _ hX => False.elim hX)
  obtain ⟨rfl, hM⟩ := hP
  obtain ⟨F2, eF2, hM⟩ := MW.nameF hM
  have hP_F2 : Pok F2 := by rw [eF2]; exact hP_F1.must _ _
  refine x_pop C dX7_readsStreet_34 rfl ?_
  refine x_aload_n C dX7_readsStreet_35 rfl ?_
  refine x_callV (mc' := 0) (ms' := 0) C dX7_readsStreet_36 (c_X7_goesOn hl hM hP_F2) mf_X7_goesOn q3713 q3715 qs68 (Or.inl hM.1) rfl rfl rfl (Nat.le_of_ble_eq_true rfl) (by decide) rfl rfl (fun r h hP => ?_) (fun _ _ _ hX => False.elim hX)
  obtain ⟨rfl, hM⟩ := hP
  obtain ⟨F3, eF3, hM⟩ := MW.nameF hM
  have hP_F3 : Pok F3 := by rw [eF3]; exact hP_F2.on _
  refine x_aload_n C dX7_readsStreet_39 rfl ?_
  refine x_iconst C (nI 1) dX7_readsStreet_40 rfl ?_
  refine x_callV (mc' := 0) (ms' := 0) C dX7_readsStreet_41 (c_X7_readsPlace_s hl hM hP_F3 hN) mf_X7_readsPlace q3738 q3740 qs74 (Or.inl hM.1) rfl rfl rfl (Nat.le_of_ble_eq_true rfl) (by decide) rfl rfl (fun r h hP => ?_) (fun _ _ _ hX => False.elim hX)
  obtain ⟨rfl, hM⟩ := hP
  obtain ⟨F4, eF4, hM⟩ := MW.nameF hM
  have hP_F4 : Pok F4 := by rw [eF4]; exact hP_F3.place _ _ _
  refine x_aload_n C dX7_readsStreet_44 rfl ?_
  refine x_iconst C (nI 1) dX7_readsStreet_45 rfl ?_
  refine x_bipush C (nI 50) dX7_readsStreet_46 rfl ?_
  refine x_callV (mc' := 0) (ms' := 0) C dX7_readsStreet_48 (c_X7_number hl hM hP_F4 (nI 1) (nI 50)) mf_X7_number q3717 q3719 qs69 (Or.inl hM.1) rfl rfl rfl (Nat.le_of_ble_eq_true rfl) (by decide) rfl rfl (fun r h hP => ?_) (fun _ _ _ hX => False.elim hX)
  obtain ⟨rfl, hM⟩ := hP
  obtain ⟨F5, eF5, hM⟩ := MW.nameF hM
  have hP_F5 : Pok F5 := by rw [eF5]; exact hP_F4.num _ _ _
  refine x_istore_n C dX7_readsStreet_51 (by decide) rfl ?_
  refine x_aload_n C dX7_readsStreet_52 rfl ?_
  refine x_iconst C (nI 1) dX7_readsStreet_53 rfl ?_
  refine x_sipush C (nI 200) dX7_readsStreet_54 rfl ?_
  refine x_callV (mc' := 0) (ms' := 0) C dX7_readsStreet_57 (c_X7_number hl hM hP_F5 (nI 1) (nI 200)) mf_X7_number q3717 q3719 qs69 (Or.inl hM.1) rfl rfl rfl (Nat.le_of_ble_eq_true rfl) (by decide) rfl rfl (fun r h hP => ?_) (fun _ _ _ hX => False.elim hX)
  obtain ⟨rfl, hM⟩ := hP
  obtain ⟨F6, eF6, hM⟩ := MW.nameF hM
  have hP_F6 : Pok F6 := by rw [eF6]; exact hP_F5.num _ _ _
  refine x_istore_n C dX7_readsStreet_60 (by decide) rfl ?_
  refine x_aload_n C dX7_readsStreet_61 rfl ?_
  refine x_bipush C (nI 59) dX7_readsStreet_62 rfl ?_
  refine x_callV (mc' := 0) (ms' := 0) C dX7_readsStreet_64 (c_X7_takesSign hl hM hP_F6 (nI 59)) mf_X7_takesSign q3725 q3727 qs71 (Or.inl hM.1) rfl rfl rfl (Nat.le_of_ble_eq_true rfl) (by decide) rfl rfl (fun r h hP => ?_) (fun _ _ _ hX => False.elim hX)
  obtain ⟨rfl, hM⟩ := hP
  obtain ⟨F7, eF7, hM⟩ := MW.nameF hM
  have hP_F7 : Pok F7 := by rw [eF7]; exact hP_F6.sign _ _
  refine x_aload_n C dX7_readsStreet_67 rfl ?_
  refine m_getI C dX7_readsStreet_68 fl_X7_198_6 hM rfl ?_
  refine x_if_eq C 75 dX7_readsStreet_71 (by decide) (fun c_71 => ?_) (fun c_71 => ?_)
  · skip
    refine x_bipush C (nI 16) dX7_readsStreet_75 rfl ?_
    refine x_bipush C (nI 9) dX7_readsStreet_77 rfl ?_
    refine x_aload_n C dX7_readsStreet_79 rfl ?_
    refine m_getN C dX7_readsStreet_80 fl_X7_7_6 hM ?_
    refine x_bipush C (nI 6) dX7_readsStreet_83 rfl ?_
    refine m_ldN C dX7_readsStreet_85 hM (j := 6) rfl (by omega) ?_
    refine x_toi (nI (cn (n 6))) hN.1.1 ?_
    refine x_imul C dX7_readsStreet_86 ?_
    refine x_toi (nI (9 * (cn (n 6)))) (pk_mul _ _) ?_
    refine x_iadd C dX7_readsStreet_87 ?_
    refine x_toi (nI (16 + (9 * (cn (n 6))))) (nI_add _ _) ?_
    refine x_istore_n C dX7_readsStreet_88 (by decide) rfl ?_
    refine x_aload_n C dX7_readsStreet_89 rfl ?_
    refine m_getN C dX7_readsStreet_90 fl_X7_7_6 hM ?_
    refine x_iload_n C dX7_readsStreet_93 rfl ?_
    refine x_iconst C (nI 0) dX7_readsStreet_94 rfl ?_
    refine x_iadd C dX7_readsStreet_95 ?_
    refine x_toi (nI ((16 + (9 * (cn (n 6)))) + 0)) (nI_add _ _) ?_
    refine x_aload_n C dX7_readsStreet_96 rfl ?_
    refine m_getI C dX7_readsStreet_97 fl_X7_229_6 hM rfl ?_
    refine m_stN C dX7_readsStreet_100 hM (j := (16 + (9 * (cn (n 6)))) + 0) rfl (by omega) (fun h hM => ?_)
    obtain ⟨n8, en8, hM⟩ := MW.nameN hM
    refine x_aload_n C dX7_readsStreet_101 rfl ?_
    refine m_getN C dX7_readsStreet_102 fl_X7_7_6 hM ?_
    refine x_iload_n C dX7_readsStreet_105 rfl ?_
    refine x_iconst C (nI 1) dX7_readsStreet_106 rfl ?_
    refine x_iadd C dX7_readsStreet_107 ?_
    refine x_toi (nI ((16 + (9 * (cn (n 6)))) + 1)) (nI_add _ _) ?_
    refine x_aload_n C dX7_readsStreet_108 rfl ?_
    refine m_getI C dX7_readsStreet_109 fl_X7_241_6 hM rfl ?_
    refine m_stN C dX7_readsStreet_112 hM (j := (16 + (9 * (cn (n 6)))) + 1) rfl (by omega) (fun h hM => ?_)
    obtain ⟨n9, en9, hM⟩ := MW.nameN hM
    refine x_aload_n C dX7_readsStreet_113 rfl ?_
    refine m_getN C dX7_readsStreet_114 fl_X7_7_6 hM ?_
    refine x_iload_n C dX7_readsStreet_117 rfl ?_
    refine x_iconst C (nI 2) dX7_readsStreet_118 rfl ?_
    refine x_iadd C dX7_readsStreet_119 ?_
    refine x_toi (nI ((16 + (9 * (cn (n 6)))) + 2)) (nI_add _ _) ?_
    refine x_aload_n C dX7_readsStreet_120 rfl ?_
    refine m_getI C dX7_readsStreet_121 fl_X7_244_6 hM rfl ?_
    refine m_stN C dX7_readsStreet_124 hM (j := (16 + (9 * (cn (n 6)))) + 2) rfl (by omega) (fun h hM => ?_)
    obtain ⟨n10, en10, hM⟩ := MW.nameN hM
    refine x_aload_n C dX7_readsStreet_125 rfl ?_
    refine m_getN C dX7_readsStreet_126 fl_X7_7_6 hM ?_
    refine x_iload_n C dX7_readsStreet_129 rfl ?_
    refine x_iconst C (nI 3) dX7_readsStreet_130 rfl ?_
    refine x_iadd C dX7_readsStreet_131 ?_
    refine x_toi (nI ((16 + (9 * (cn (n 6)))) + 3)) (nI_add _ _) ?_
    refine x_iload_n C dX7_readsStreet_132 rfl ?_
    refine m_stN C dX7_readsStreet_133 hM (j := (16 + (9 * (cn (n 6)))) + 3) rfl (by omega) (fun h hM => ?_)
    obtain ⟨n11, en11, hM⟩ := MW.nameN hM
    refine x_aload_n C dX7_readsStreet_134 rfl ?_
    refine m_getN C dX7_readsStreet_135 fl_X7_7_6 hM ?_
    refine x_iload_n C dX7_readsStreet_138 rfl ?_
    refine x_iconst C (nI 4) dX7_readsStreet_139 rfl ?_
    refine x_iadd C dX7_readsStreet_140 ?_
    refine x_toi (nI ((16 + (9 * (cn (n 6)))) + 4)) (nI_add _ _) ?_
    refine x_iload_n C dX7_readsStreet_141 rfl ?_
    refine m_stN C dX7_readsStreet_142 hM (j := (16 + (9 * (cn (n 6)))) + 4) rfl (by omega) (fun h hM => ?_)
    obtain ⟨n12, en12, hM⟩ := MW.nameN hM
    refine x_aload_n C dX7_readsStreet_143 rfl ?_
    refine m_getN C dX7_readsStreet_144 fl_X7_7_6 hM ?_
    refine x_bipush C (nI 6) dX7_readsStreet_147 rfl ?_
    refine x_dup2 C dX7_readsStreet_149 rfl rfl ?_
    refine m_ldN C dX7_readsStreet_150 hM (j := 6) rfl (by omega) ?_
    refine x_iconst C (nI 1) dX7_readsStreet_151 rfl ?_
    refine x_iadd C dX7_readsStreet_152 ?_
    refine m_stN C dX7_readsStreet_153 hM (j := 6) rfl (by omega) (fun h hM => ?_)
    obtain ⟨n13, en13, hM⟩ := MW.nameN hM
    exact x_ret B0 dX7_readsStreet_154 rfl (by have q_ := en13.symm; subst q_; have q_ := en12.symm; subst q_; have q_ := en11.symm; subst q_; have q_ := en10.symm; subst q_; have q_ := en9.symm; subst q_; have q_ := en8.symm; subst q_; have q_ := eF7.symm; subst q_; have q_ := eF6.symm; subst q_; have q_ := eF5.symm; subst q_; have q_ := eF4.symm; subst q_; have q_ := eF3.symm; subst q_; have q_ := eF2.symm; subst q_; have q_ := eF1.symm; subst q_; rw [show sp_streetN (B 9) n F = sp_streetP (B 9) n F (sp_streetF (B 9) n F) from if_pos c_71]; refine ⟨rfl, ?_⟩; unfold sp_streetP; simp only [sp_streetF, sp_streetA]; exact hM)
  · skip
    exact x_ret B0 dX7_readsStreet_74 rfl (by have q_ := eF7.symm; subst q_; have q_ := eF6.symm; subst q_; have q_ := eF5.symm; subst q_; have q_ := eF4.symm; subst q_; have q_ := eF3.symm; subst q_; have q_ := eF2.symm; subst q_; have q_ := eF1.symm; subst q_; rw [show sp_streetN (B 9) n F = n from if_neg c_71]; exact ⟨rfl, hM⟩)
theorem c_X7_readsGarden {G : xG} {l : Launch} (hl : l.stackTraces = false) {m : Nat} {A : Nat → Nat} {F n : Nat → Int32} {B : Nat → Nat → Int32} {h0 h : xAH} (hM : MW m A F n B h0 h) (hP : Pok F) (hW : xWd G) (hN : Nok n) : xM G l yX7_readsGarden cX7_readsGarden 3 (Option.none : Option Jvm.ClassFile.FieldType) [] 6 0 0 [.ref m] h (fun r h2 => r = none ∧ MW m A (sp_gardenF (B 9) n F) (sp_gardenN (B 9) n F) B h0 h2) xNo := by
  refine xcode_start (by decide) (Nat.le_of_ble_eq_true rfl) hl ?_
  intro E hE B0
  subst hE
  have C := B0.1
  have hq6 := hN.1.2; have hq7 := hN.2.1.2; have hq8 := hN.2.2.2
  show xW G E 3 0 0 h 0 [(0, .ref m)] []
  refine x_aload_n C dX7_readsGarden_0 rfl ?_
  refine x_aload_n C dX7_readsGarden_1 rfl ?_
  refine x_ldcwS C 25 dX7_readsGarden_2 rfl ?_
  refine x_callV (mc' := 0) (ms' := 0) C dX7_readsGarden_5 (c_X7_isWord hl hM hP hW (hW.txt 25 _ rfl)) mf_X7_isWord q3705 q3707 qs66 (Or.inl hM.1) rfl rfl rfl (Nat.le_of_ble_eq_true rfl) (by decide) rfl rfl (fun r h hP => ?_) (fun _ _ _ hX => False.elim hX)
  obtain ⟨rfl, hM⟩ := hP
  refine x_iconst C (nI 1) dX7_readsGarden_8 rfl ?_
  refine x_callV (mc' := 0) (ms' := 0) C dX7_readsGarden_9 (c_X7_must hl hM (sp_isWord (B 9) F (tx "garden")) (nI 1)) mf_X7_must q3709 q3711 qs67 (Or.inl hM.1) rfl rfl rfl (Nat.le_of_ble_eq_true rfl) (by decide) rfl rfl (fun r h hP => ?_) (fun _ _ _ hX => False.elim hX)
  obtain ⟨rfl, hM⟩ := hP
  obtain ⟨F1, eF1, hM⟩ := MW.nameF hM
  have hP_F1 : Pok F1 := by rw [eF1]; exact hP.must _ _
  refine x_pop C dX7_readsGarden_12 rfl ?_
  refine x_aload_n C dX7_readsGarden_13 rfl ?_
  refine x_aload_n C dX7_readsGarden_14 rfl ?_
  refine m_getN C dX7_readsGarden_15 fl_X7_7_6 hM ?_
  refine x_bipush C (nI 7) dX7_readsGarden_18 rfl ?_
  refine m_ldN C dX7_readsGarden_20 hM (j := 7) rfl (by omega) ?_
  refine x_bipush C (nI 6) dX7_readsGarden_21 rfl ?_
  refine x_sel_icmp_ge C 30 31 dX7_readsGarden_23 (by decide) dX7_readsGarden_26 dX7_readsGarden_27 (by decide) dX7_readsGarden_30 rfl ?_
  refine x_iconst C (nI 5) dX7_readsGarden_31 rfl ?_
  refine x_callV (mc' := 0) (ms' := 0) C dX7_readsGarden_32 (c_X7_must hl hM (decide ((n 7) < (nI 6))) (nI 5)) mf_X7_must q3709 q3711 qs67 (Or.inl hM.1) rfl rfl rfl (Nat.le_of_ble_eq_true rfl) (by decide) rfl rfl (fun r h hP => ?_) (fun _ _ _ hX => False.elim hX)
  obtain ⟨rfl, hM⟩ := hP
  obtain ⟨F2, eF2, hM⟩ := MW.nameF hM
  have hP_F2 : Pok F2 := by rw [eF2]; exact hP_F1.must _ _
  refine x_pop C dX7_readsGarden_35 rfl ?_
  refine x_aload_n C dX7_readsGarden_36 rfl ?_
  refine x_callV (mc' := 0) (ms' := 0) C dX7_readsGarden_37 (c_X7_goesOn hl hM hP_F2) mf_X7_goesOn q3713 q3715 qs68 (Or.inl hM.1) rfl rfl rfl (Nat.le_of_ble_eq_true rfl) (by decide) rfl rfl (fun r h hP => ?_) (fun _ _ _ hX => False.elim hX)
  obtain ⟨rfl, hM⟩ := hP
  obtain ⟨F3, eF3, hM⟩ := MW.nameF hM
  have hP_F3 : Pok F3 := by rw [eF3]; exact hP_F2.on _
  refine x_aload_n C dX7_readsGarden_40 rfl ?_
  refine x_iconst C (nI 0) dX7_readsGarden_41 rfl ?_
  refine x_callV (mc' := 0) (ms' := 0) C dX7_readsGarden_42 (c_X7_readsPlace_g hl hM hP_F3 hN) mf_X7_readsPlace q3738 q3740 qs74 (Or.inl hM.1) rfl rfl rfl (Nat.le_of_ble_eq_true rfl) (by decide) rfl rfl (fun r h hP => ?_) (fun _ _ _ hX => False.elim hX)
  obtain ⟨rfl, hM⟩ := hP
  obtain ⟨F4, eF4, hM⟩ := MW.nameF hM
  have hP_F4 : Pok F4 := by rw [eF4]; exact hP_F3.place _ _ _
  refine x_aload_n C dX7_readsGarden_45 rfl ?_
  refine x_iconst C (nI 1) dX7_readsGarden_46 rfl ?_
  refine x_bipush C (nI 30) dX7_readsGarden_47 rfl ?_
  refine x_callV (mc' := 0) (ms' := 0) C dX7_readsGarden_49 (c_X7_number hl hM hP_F4 (nI 1) (nI 30)) mf_X7_number q3717 q3719 qs69 (Or.inl hM.1) rfl rfl rfl (Nat.le_of_ble_eq_true rfl) (by decide) rfl rfl (fun r h hP => ?_) (fun _ _ _ hX => False.elim hX)
  obtain ⟨rfl, hM⟩ := hP
  obtain ⟨F5, eF5, hM⟩ := MW.nameF hM
  have hP_F5 : Pok F5 := by rw [eF5]; exact hP_F4.num _ _ _
  refine x_istore_n C dX7_readsGarden_52 (by decide) rfl ?_
  refine x_aload_n C dX7_readsGarden_53 rfl ?_
  refine x_bipush C (nI 59) dX7_readsGarden_54 rfl ?_
  refine x_callV (mc' := 0) (ms' := 0) C dX7_readsGarden_56 (c_X7_takesSign hl hM hP_F5 (nI 59)) mf_X7_takesSign q3725 q3727 qs71 (Or.inl hM.1) rfl rfl rfl (Nat.le_of_ble_eq_true rfl) (by decide) rfl rfl (fun r h hP => ?_) (fun _ _ _ hX => False.elim hX)
  obtain ⟨rfl, hM⟩ := hP
  obtain ⟨F6, eF6, hM⟩ := MW.nameF hM
  have hP_F6 : Pok F6 := by rw [eF6]; exact hP_F5.sign _ _
  refine x_aload_n C dX7_readsGarden_59 rfl ?_
  refine m_getI C dX7_readsGarden_60 fl_X7_198_6 hM rfl ?_
  refine x_if_eq C 67 dX7_readsGarden_63 (by decide) (fun c_63 => ?_) (fun c_63 => ?_)
  · skip
    refine x_bipush C (nI 88) dX7_readsGarden_67 rfl ?_
    refine x_bipush C (nI 9) dX7_readsGarden_69 rfl ?_
    refine x_aload_n C dX7_readsGarden_71 rfl ?_
    refine m_getN C dX7_readsGarden_72 fl_X7_7_6 hM ?_
    refine x_bipush C (nI 7) dX7_readsGarden_75 rfl ?_
    refine m_ldN C dX7_readsGarden_77 hM (j := 7) rfl (by omega) ?_
    refine x_toi (nI (cn (n 7))) hN.2.1.1 ?_
    refine x_imul C dX7_readsGarden_78 ?_
    refine x_toi (nI (9 * (cn (n 7)))) (pk_mul _ _) ?_
    refine x_iadd C dX7_readsGarden_79 ?_
    refine x_toi (nI (88 + (9 * (cn (n 7))))) (nI_add _ _) ?_
    refine x_istore_n C dX7_readsGarden_80 (by decide) rfl ?_
    refine x_aload_n C dX7_readsGarden_81 rfl ?_
    refine m_getN C dX7_readsGarden_82 fl_X7_7_6 hM ?_
    refine x_iload_n C dX7_readsGarden_85 rfl ?_
    refine x_iconst C (nI 0) dX7_readsGarden_86 rfl ?_
    refine x_iadd C dX7_readsGarden_87 ?_
    refine x_toi (nI ((88 + (9 * (cn (n 7)))) + 0)) (nI_add _ _) ?_
    refine x_aload_n C dX7_readsGarden_88 rfl ?_
    refine m_getI C dX7_readsGarden_89 fl_X7_229_6 hM rfl ?_
    refine m_stN C dX7_readsGarden_92 hM (j := (88 + (9 * (cn (n 7)))) + 0) rfl (by omega) (fun h hM => ?_)
    obtain ⟨n7, en7, hM⟩ := MW.nameN hM
    refine x_aload_n C dX7_readsGarden_93 rfl ?_
    refine m_getN C dX7_readsGarden_94 fl_X7_7_6 hM ?_
    refine x_iload_n C dX7_readsGarden_97 rfl ?_
    refine x_iconst C (nI 1) dX7_readsGarden_98 rfl ?_
    refine x_iadd C dX7_readsGarden_99 ?_
    refine x_toi (nI ((88 + (9 * (cn (n 7)))) + 1)) (nI_add _ _) ?_
    refine x_aload_n C dX7_readsGarden_100 rfl ?_
    refine m_getI C dX7_readsGarden_101 fl_X7_241_6 hM rfl ?_
    refine m_stN C dX7_readsGarden_104 hM (j := (88 + (9 * (cn (n 7)))) + 1) rfl (by omega) (fun h hM => ?_)
    obtain ⟨n8, en8, hM⟩ := MW.nameN hM
    refine x_aload_n C dX7_readsGarden_105 rfl ?_
    refine m_getN C dX7_readsGarden_106 fl_X7_7_6 hM ?_
    refine x_iload_n C dX7_readsGarden_109 rfl ?_
    refine x_iconst C (nI 2) dX7_readsGarden_110 rfl ?_
    refine x_iadd C dX7_readsGarden_111 ?_
    refine x_toi (nI ((88 + (9 * (cn (n 7)))) + 2)) (nI_add _ _) ?_
    refine x_aload_n C dX7_readsGarden_112 rfl ?_
    refine m_getI C dX7_readsGarden_113 fl_X7_244_6 hM rfl ?_
    refine m_stN C dX7_readsGarden_116 hM (j := (88 + (9 * (cn (n 7)))) + 2) rfl (by omega) (fun h hM => ?_)
    obtain ⟨n9, en9, hM⟩ := MW.nameN hM
    refine x_aload_n C dX7_readsGarden_117 rfl ?_
    refine m_getN C dX7_readsGarden_118 fl_X7_7_6 hM ?_
    refine x_iload_n C dX7_readsGarden_121 rfl ?_
    refine x_iconst C (nI 3) dX7_readsGarden_122 rfl ?_
    refine x_iadd C dX7_readsGarden_123 ?_
    refine x_toi (nI ((88 + (9 * (cn (n 7)))) + 3)) (nI_add _ _) ?_
    refine x_iload_n C dX7_readsGarden_124 rfl ?_
    refine m_stN C dX7_readsGarden_125 hM (j := (88 + (9 * (cn (n 7)))) + 3) rfl (by omega) (fun h hM => ?_)
    obtain ⟨n10, en10, hM⟩ := MW.nameN hM
    refine x_aload_n C dX7_readsGarden_126 rfl ?_
    refine m_getN C dX7_readsGarden_127 fl_X7_7_6 hM ?_
    refine x_bipush C (nI 7) dX7_readsGarden_130 rfl ?_
    refine x_dup2 C dX7_readsGarden_132 rfl rfl ?_
    refine m_ldN C dX7_readsGarden_133 hM (j := 7) rfl (by omega) ?_
    refine x_iconst C (nI 1) dX7_readsGarden_134 rfl ?_
    refine x_iadd C dX7_readsGarden_135 ?_
    refine m_stN C dX7_readsGarden_136 hM (j := 7) rfl (by omega) (fun h hM => ?_)
    obtain ⟨n11, en11, hM⟩ := MW.nameN hM
    exact x_ret B0 dX7_readsGarden_137 rfl (by have q_ := en11.symm; subst q_; have q_ := en10.symm; subst q_; have q_ := en9.symm; subst q_; have q_ := en8.symm; subst q_; have q_ := en7.symm; subst q_; have q_ := eF6.symm; subst q_; have q_ := eF5.symm; subst q_; have q_ := eF4.symm; subst q_; have q_ := eF3.symm; subst q_; have q_ := eF2.symm; subst q_; have q_ := eF1.symm; subst q_; rw [show sp_gardenN (B 9) n F = sp_gardenP (B 9) n F (sp_gardenF (B 9) n F) from if_pos c_63]; refine ⟨rfl, ?_⟩; unfold sp_gardenP; simp only [sp_gardenF, sp_gardenA]; exact hM)
  · skip
    exact x_ret B0 dX7_readsGarden_66 rfl (by have q_ := eF6.symm; subst q_; have q_ := eF5.symm; subst q_; have q_ := eF4.symm; subst q_; have q_ := eF3.symm; subst q_; have q_ := eF2.symm; subst q_; have q_ := eF1.symm; subst q_; rw [show sp_gardenN (B 9) n F = n from if_neg c_63]; exact ⟨rfl, hM⟩)
theorem c_X7_readsCart {G : xG} {l : Launch} (hl : l.stackTraces = false) {m : Nat} {A : Nat → Nat} {F n : Nat → Int32} {B : Nat → Nat → Int32} {h0 h : xAH} (hM : MW m A F n B h0 h) (hP : Pok F) (hW : xWd G) (hN : Nok n) : xM G l yX7_readsCart cX7_readsCart 3 (Option.none : Option Jvm.ClassFile.FieldType) [] 6 0 0 [.ref m] h (fun r h2 => r = none ∧ MW m A (sp_cartF (B 9) n F) (sp_cartN (B 9) n F) B h0 h2) xNo := by
  refine xcode_start (by decide) (Nat.le_of_ble_eq_true rfl) hl ?_
  intro E hE B0
  subst hE
  have C := B0.1
  have hq6 := hN.1.2; have hq7 := hN.2.1.2; have hq8 := hN.2.2.2
  show xW G E 3 0 0 h 0 [(0, .ref m)] []
  refine x_aload_n C dX7_readsCart_0 rfl ?_
  refine x_aload_n C dX7_readsCart_1 rfl ?_
  refine x_ldcwS C 26 dX7_readsCart_2 rfl ?_
  refine x_callV (mc' := 0) (ms' := 0) C dX7_readsCart_5 (c_X7_isWord hl hM hP hW (hW.txt 26 _ rfl)) mf_X7_isWord q3705 q3707 qs66 (Or.inl hM.1) rfl rfl rfl (Nat.le_of_ble_eq_true rfl) (by decide) rfl rfl (fun r h hP => ?_) (fun _ _ _ hX => False.elim hX)
  obtain ⟨rfl, hM⟩ := hP
  refine x_iconst C (nI 1) dX7_readsCart_8 rfl ?_
  refine x_callV (mc' := 0) (ms' := 0) C dX7_readsCart_9 (c_X7_must hl hM (sp_isWord (B 9) F (tx "cart")) (nI 1)) mf_X7_must q3709 q3711 qs67 (Or.inl hM.1) rfl rfl rfl (Nat.le_of_ble_eq_true rfl) (by decide) rfl rfl (fun r h hP => ?_) (fun _ _ _ hX => False.elim hX)
  obtain ⟨rfl, hM⟩ := hP
  obtain ⟨F1, eF1, hM⟩ := MW.nameF hM
  have hP_F1 : Pok F1 := by rw [eF1]; exact hP.must _ _
  refine x_pop C dX7_readsCart_12 rfl ?_
  refine x_aload_n C dX7_readsCart_13 rfl ?_
  refine x_aload_n C dX7_readsCart_14 rfl ?_
  refine m_getN C dX7_readsCart_15 fl_X7_7_6 hM ?_
  refine x_bipush C (nI 8) dX7_readsCart_18 rfl ?_
  refine m_ldN C dX7_readsCart_20 hM (j := 8) rfl (by omega) ?_
  refine x_bipush C (nI 6) dX7_readsCart_21 rfl ?_
  refine x_sel_icmp_ge C 30 31 dX7_readsCart_23 (by decide) dX7_readsCart_26 dX7_readsCart_27 (by decide) dX7_readsCart_30 rfl ?_
  refine x_iconst C (nI 5) dX7_readsCart_31 rfl ?_
  refine x_callV (mc' := 0) (ms' := 0) C dX7_readsCart_32 (c_X7_must hl hM (decide ((n 8) < (nI 6))) (nI 5)) mf_X7_must q3709 q3711 qs67 (Or.inl hM.1) rfl rfl rfl (Nat.le_of_ble_eq_true rfl) (by decide) rfl rfl (fun r h hP => ?_) (fun _ _ _ hX => False.elim hX)
  obtain ⟨rfl, hM⟩ := hP
  obtain ⟨F2, eF2, hM⟩ := MW.nameF hM
  have hP_F2 : Pok F2 := by rw [eF2]; exact hP_F1.must _ _
  refine x_pop C dX7_readsCart_35 rfl ?_
  refine x_aload_n C dX7_readsCart_36 rfl ?_
  refine x_callV (mc' := 0) (ms' := 0) C dX7_readsCart_37 (c_X7_goesOn hl hM hP_F2) mf_X7_goesOn q3713 q3715 qs68 (Or.inl hM.1) rfl rfl rfl (Nat.le_of_ble_eq_true rfl) (by decide) rfl rfl (fun r h hP => ?_) (fun _ _ _ hX => False.elim hX)
  obtain ⟨rfl, hM⟩ := hP
  obtain ⟨F3, eF3, hM⟩ := MW.nameF hM
  have hP_F3 : Pok F3 := by rw [eF3]; exact hP_F2.on _
  refine x_aload_n C dX7_readsCart_40 rfl ?_
  refine x_iconst C (nI 1) dX7_readsCart_41 rfl ?_
  refine x_bipush C (nI 60) dX7_readsCart_42 rfl ?_
  refine x_callV (mc' := 0) (ms' := 0) C dX7_readsCart_44 (c_X7_number hl hM hP_F3 (nI 1) (nI 60)) mf_X7_number q3717 q3719 qs69 (Or.inl hM.1) rfl rfl rfl (Nat.le_of_ble_eq_true rfl) (by decide) rfl rfl (fun r h hP => ?_) (fun _ _ _ hX => False.elim hX)
  obtain ⟨rfl, hM⟩ := hP
  obtain ⟨F4, eF4, hM⟩ := MW.nameF hM
  have hP_F4 : Pok F4 := by rw [eF4]; exact hP_F3.num _ _ _
  refine x_istore_n C dX7_readsCart_47 (by decide) rfl ?_
  refine x_aload_n C dX7_readsCart_48 rfl ?_
  refine x_iconst C (nI 1) dX7_readsCart_49 rfl ?_
  refine x_bipush C (nI 9) dX7_readsCart_50 rfl ?_
  refine x_callV (mc' := 0) (ms' := 0) C dX7_readsCart_52 (c_X7_number hl hM hP_F4 (nI 1) (nI 9)) mf_X7_number q3717 q3719 qs69 (Or.inl hM.1) rfl rfl rfl (Nat.le_of_ble_eq_true rfl) (by decide) rfl rfl (fun r h hP => ?_) (fun _ _ _ hX => False.elim hX)
  obtain ⟨rfl, hM⟩ := hP
  obtain ⟨F5, eF5, hM⟩ := MW.nameF hM
  have hP_F5 : Pok F5 := by rw [eF5]; exact hP_F4.num _ _ _
  refine x_istore_n C dX7_readsCart_55 (by decide) rfl ?_
  refine x_aload_n C dX7_readsCart_56 rfl ?_
  refine x_bipush C (nI 59) dX7_readsCart_57 rfl ?_
  refine x_callV (mc' := 0) (ms' := 0) C dX7_readsCart_59 (c_X7_takesSign hl hM hP_F5 (nI 59)) mf_X7_takesSign q3725 q3727 qs71 (Or.inl hM.1) rfl rfl rfl (Nat.le_of_ble_eq_true rfl) (by decide) rfl rfl (fun r h hP => ?_) (fun _ _ _ hX => False.elim hX)
  obtain ⟨rfl, hM⟩ := hP
  obtain ⟨F6, eF6, hM⟩ := MW.nameF hM
  have hP_F6 : Pok F6 := by rw [eF6]; exact hP_F5.sign _ _
  refine x_aload_n C dX7_readsCart_62 rfl ?_
  refine m_getI C dX7_readsCart_63 fl_X7_198_6 hM rfl ?_
  refine x_if_eq C 70 dX7_readsCart_66 (by decide) (fun c_66 => ?_) (fun c_66 => ?_)
  · skip
    refine x_aload_n C dX7_readsCart_70 rfl ?_
    refine x_aload_n C dX7_readsCart_71 rfl ?_
    refine m_getN C dX7_readsCart_72 fl_X7_7_6 hM ?_
    refine x_bipush C (nI 8) dX7_readsCart_75 rfl ?_
    refine m_ldN C dX7_readsCart_77 hM (j := 8) rfl (by omega) ?_
    refine x_toi (nI (cn (n 8))) hN.2.2.1 ?_
    refine x_iconst C (nI 0) dX7_readsCart_78 rfl ?_
    refine x_iload_n C dX7_readsCart_79 rfl ?_
    refine x_callV (mc' := 0) (ms' := 0) C dX7_readsCart_80 (c_X7_putC hl hM (cn (n 8)) 0 (sp_look F3 (nI 1) (nI 60) 16) (by omega)) mf_X7_putC q3784 q3786 qs85 (Or.inl hM.1) rfl rfl rfl (Nat.le_of_ble_eq_true rfl) (by decide) rfl rfl (fun r h hP => ?_) (fun _ _ _ hX => False.elim hX)
    obtain ⟨rfl, hM⟩ := hP
    obtain ⟨n7, en7, hM⟩ := MW.nameN hM
    refine x_aload_n C dX7_readsCart_83 rfl ?_
    refine x_aload_n C dX7_readsCart_84 rfl ?_
    refine m_getN C dX7_readsCart_85 fl_X7_7_6 hM ?_
    refine x_bipush C (nI 8) dX7_readsCart_88 rfl ?_
    refine m_ldN C dX7_readsCart_90 hM (j := 8) rfl (by omega) ?_
    refine x_toi (nI (cn (n 8))) (by have q_ := en7.symm; subst q_; rw [va_ne (by omega)]; exact hN.2.2.1) ?_
    refine x_iconst C (nI 1) dX7_readsCart_91 rfl ?_
    refine x_iload_n C dX7_readsCart_92 rfl ?_
    refine x_callV (mc' := 0) (ms' := 0) C dX7_readsCart_93 (c_X7_putC hl hM (cn (n 8)) 1 (sp_look F4 (nI 1) (nI 9) 16) (by omega)) mf_X7_putC q3784 q3786 qs85 (Or.inl hM.1) rfl rfl rfl (Nat.le_of_ble_eq_true rfl) (by decide) rfl rfl (fun r h hP => ?_) (fun _ _ _ hX => False.elim hX)
    obtain ⟨rfl, hM⟩ := hP
    obtain ⟨n8, en8, hM⟩ := MW.nameN hM
    refine x_aload_n C dX7_readsCart_96 rfl ?_
    refine m_getN C dX7_readsCart_97 fl_X7_7_6 hM ?_
    refine x_bipush C (nI 8) dX7_readsCart_100 rfl ?_
    refine x_dup2 C dX7_readsCart_102 rfl rfl ?_
    refine m_ldN C dX7_readsCart_103 hM (j := 8) rfl (by omega) ?_
    refine x_iconst C (nI 1) dX7_readsCart_104 rfl ?_
    refine x_iadd C dX7_readsCart_105 ?_
    refine m_stN C dX7_readsCart_106 hM (j := 8) rfl (by omega) (fun h hM => ?_)
    obtain ⟨n9, en9, hM⟩ := MW.nameN hM
    exact x_ret B0 dX7_readsCart_107 rfl (by have q_ := en9.symm; subst q_; have q_ := en8.symm; subst q_; have q_ := en7.symm; subst q_; have q_ := eF6.symm; subst q_; have q_ := eF5.symm; subst q_; have q_ := eF4.symm; subst q_; have q_ := eF3.symm; subst q_; have q_ := eF2.symm; subst q_; have q_ := eF1.symm; subst q_; rw [show sp_cartN (B 9) n F = sp_cartP (B 9) n F from if_pos c_66]; refine ⟨rfl, ?_⟩; unfold sp_cartP; simp only [sp_cartF, sp_cartA]; exact hM)
  · skip
    exact x_ret B0 dX7_readsCart_69 rfl (by have q_ := eF6.symm; subst q_; have q_ := eF5.symm; subst q_; have q_ := eF4.symm; subst q_; have q_ := eF3.symm; subst q_; have q_ := eF2.symm; subst q_; have q_ := eF1.symm; subst q_; rw [show sp_cartN (B 9) n F = n from if_neg c_66]; exact ⟨rfl, hM⟩)
theorem c_X7_readsSetup {G : xG} {l : Launch} (hl : l.stackTraces = false) {m : Nat} {A : Nat → Nat} {F n : Nat → Int32} {B : Nat → Nat → Int32} {h0 h : xAH} (hM : MW m A F n B h0 h) (hP : Pok F) (hW : xWd G) (hN : Nok n) : xM G l yX7_readsSetup cX7_readsSetup 1 (Option.none : Option Jvm.ClassFile.FieldType) [] 7 0 0 [.ref m] h (fun r h2 => r = none ∧ MW m A ((sp_setup (B 9) (F, n)).1) ((sp_setup (B 9) (F, n)).2) B h0 h2) xNo := by
  refine xcode_start (by decide) (Nat.le_of_ble_eq_true rfl) hl ?_
  intro E hE B0
  subst hE
  have C := B0.1
  show xW G E 1 0 0 h 0 [(0, .ref m)] []
  refine x_aload_n C dX7_readsSetup_0 rfl ?_
  refine x_aload_n C dX7_readsSetup_1 rfl ?_
  refine x_ldcwS C 27 dX7_readsSetup_2 rfl ?_
  refine x_callV (mc' := 0) (ms' := 0) C dX7_readsSetup_5 (c_X7_isWord hl hM hP hW (hW.txt 27 _ rfl)) mf_X7_isWord q3705 q3707 qs66 (Or.inl hM.1) rfl rfl rfl (Nat.le_of_ble_eq_true rfl) (by decide) rfl rfl (fun r h hP => ?_) (fun _ _ _ hX => False.elim hX)
  obtain ⟨rfl, hM⟩ := hP
  refine x_iconst C (nI 1) dX7_readsSetup_8 rfl ?_
  refine x_callV (mc' := 0) (ms' := 0) C dX7_readsSetup_9 (c_X7_must hl hM (sp_isWord (B 9) F (tx "guild")) (nI 1)) mf_X7_must q3709 q3711 qs67 (Or.inl hM.1) rfl rfl rfl (Nat.le_of_ble_eq_true rfl) (by decide) rfl rfl (fun r h hP => ?_) (fun _ _ _ hX => False.elim hX)
  obtain ⟨rfl, hM⟩ := hP
  obtain ⟨F1, eF1, hM⟩ := MW.nameF hM
  have hP_F1 : Pok F1 := by rw [eF1]; exact hP.must _ _
  refine x_pop C dX7_readsSetup_12 rfl ?_
  refine x_aload_n C dX7_readsSetup_13 rfl ?_
  refine x_callV (mc' := 0) (ms' := 0) C dX7_readsSetup_14 (c_X7_goesOn hl hM hP_F1) mf_X7_goesOn q3713 q3715 qs68 (Or.inl hM.1) rfl rfl rfl (Nat.le_of_ble_eq_true rfl) (by decide) rfl rfl (fun r h hP => ?_) (fun _ _ _ hX => False.elim hX)
  obtain ⟨rfl, hM⟩ := hP
  obtain ⟨F2, eF2, hM⟩ := MW.nameF hM
  have hP_F2 : Pok F2 := by rw [eF2]; exact hP_F1.on _
  refine x_aload_n C dX7_readsSetup_17 rfl ?_
  refine m_getN C dX7_readsSetup_18 fl_X7_7_6 hM ?_
  refine x_iconst C (nI 0) dX7_readsSetup_21 rfl ?_
  refine x_aload_n C dX7_readsSetup_22 rfl ?_
  refine x_iconst C (nI 1) dX7_readsSetup_23 rfl ?_
  refine x_bipush C (nI 12) dX7_readsSetup_24 rfl ?_
  refine x_callV (mc' := 0) (ms' := 0) C dX7_readsSetup_26 (c_X7_number hl hM hP_F2 (nI 1) (nI 12)) mf_X7_number q3717 q3719 qs69 (Or.inl hM.1) rfl rfl rfl (Nat.le_of_ble_eq_true rfl) (by decide) rfl rfl (fun r h hP => ?_) (fun _ _ _ hX => False.elim hX)
  obtain ⟨rfl, hM⟩ := hP
  obtain ⟨F3, eF3, hM⟩ := MW.nameF hM
  have hP_F3 : Pok F3 := by rw [eF3]; exact hP_F2.num _ _ _
  refine m_stN C dX7_readsSetup_29 hM (j := 0) rfl (by omega) (fun h hM => ?_)
  obtain ⟨n4, en4, hM⟩ := MW.nameN hM
  refine x_aload_n C dX7_readsSetup_30 rfl ?_
  refine m_getN C dX7_readsSetup_31 fl_X7_7_6 hM ?_
  refine x_iconst C (nI 1) dX7_readsSetup_34 rfl ?_
  refine x_aload_n C dX7_readsSetup_35 rfl ?_
  refine x_iconst C (nI 0) dX7_readsSetup_36 rfl ?_
  refine x_bipush C (nI 9) dX7_readsSetup_37 rfl ?_
  refine x_callV (mc' := 0) (ms' := 0) C dX7_readsSetup_39 (c_X7_number hl hM hP_F3 (nI 0) (nI 9)) mf_X7_number q3717 q3719 qs69 (Or.inl hM.1) rfl rfl rfl (Nat.le_of_ble_eq_true rfl) (by decide) rfl rfl (fun r h hP => ?_) (fun _ _ _ hX => False.elim hX)
  obtain ⟨rfl, hM⟩ := hP
  obtain ⟨F5, eF5, hM⟩ := MW.nameF hM
  have hP_F5 : Pok F5 := by rw [eF5]; exact hP_F3.num _ _ _
  refine m_stN C dX7_readsSetup_42 hM (j := 1) rfl (by omega) (fun h hM => ?_)
  obtain ⟨n6, en6, hM⟩ := MW.nameN hM
  refine x_aload_n C dX7_readsSetup_43 rfl ?_
  refine m_getN C dX7_readsSetup_44 fl_X7_7_6 hM ?_
  refine x_iconst C (nI 2) dX7_readsSetup_47 rfl ?_
  refine x_aload_n C dX7_readsSetup_48 rfl ?_
  refine x_iconst C (nI 0) dX7_readsSetup_49 rfl ?_
  refine x_bipush C (nI 99) dX7_readsSetup_50 rfl ?_
  refine x_callV (mc' := 0) (ms' := 0) C dX7_readsSetup_52 (c_X7_number hl hM hP_F5 (nI 0) (nI 99)) mf_X7_number q3717 q3719 qs69 (Or.inl hM.1) rfl rfl rfl (Nat.le_of_ble_eq_true rfl) (by decide) rfl rfl (fun r h hP => ?_) (fun _ _ _ hX => False.elim hX)
  obtain ⟨rfl, hM⟩ := hP
  obtain ⟨F7, eF7, hM⟩ := MW.nameF hM
  have hP_F7 : Pok F7 := by rw [eF7]; exact hP_F5.num _ _ _
  refine m_stN C dX7_readsSetup_55 hM (j := 2) rfl (by omega) (fun h hM => ?_)
  obtain ⟨n8, en8, hM⟩ := MW.nameN hM
  refine x_aload_n C dX7_readsSetup_56 rfl ?_
  refine m_getN C dX7_readsSetup_57 fl_X7_7_6 hM ?_
  refine x_iconst C (nI 3) dX7_readsSetup_60 rfl ?_
  refine x_aload_n C dX7_readsSetup_61 rfl ?_
  refine x_iconst C (nI 0) dX7_readsSetup_62 rfl ?_
  refine x_bipush C (nI 99) dX7_readsSetup_63 rfl ?_
  refine x_callV (mc' := 0) (ms' := 0) C dX7_readsSetup_65 (c_X7_number hl hM hP_F7 (nI 0) (nI 99)) mf_X7_number q3717 q3719 qs69 (Or.inl hM.1) rfl rfl rfl (Nat.le_of_ble_eq_true rfl) (by decide) rfl rfl (fun r h hP => ?_) (fun _ _ _ hX => False.elim hX)
  obtain ⟨rfl, hM⟩ := hP
  obtain ⟨F9, eF9, hM⟩ := MW.nameF hM
  have hP_F9 : Pok F9 := by rw [eF9]; exact hP_F7.num _ _ _
  refine m_stN C dX7_readsSetup_68 hM (j := 3) rfl (by omega) (fun h hM => ?_)
  obtain ⟨n10, en10, hM⟩ := MW.nameN hM
  refine x_aload_n C dX7_readsSetup_69 rfl ?_
  refine m_getN C dX7_readsSetup_70 fl_X7_7_6 hM ?_
  refine x_iconst C (nI 4) dX7_readsSetup_73 rfl ?_
  refine x_aload_n C dX7_readsSetup_74 rfl ?_
  refine x_iconst C (nI 0) dX7_readsSetup_75 rfl ?_
  refine x_iconst C (nI 3) dX7_readsSetup_76 rfl ?_
  refine x_callV (mc' := 0) (ms' := 0) C dX7_readsSetup_77 (c_X7_number hl hM hP_F9 (nI 0) (nI 3)) mf_X7_number q3717 q3719 qs69 (Or.inl hM.1) rfl rfl rfl (Nat.le_of_ble_eq_true rfl) (by decide) rfl rfl (fun r h hP => ?_) (fun _ _ _ hX => False.elim hX)
  obtain ⟨rfl, hM⟩ := hP
  obtain ⟨F11, eF11, hM⟩ := MW.nameF hM
  have hP_F11 : Pok F11 := by rw [eF11]; exact hP_F9.num _ _ _
  refine m_stN C dX7_readsSetup_80 hM (j := 4) rfl (by omega) (fun h hM => ?_)
  obtain ⟨n12, en12, hM⟩ := MW.nameN hM
  refine x_aload_n C dX7_readsSetup_81 rfl ?_
  refine x_bipush C (nI 59) dX7_readsSetup_82 rfl ?_
  refine x_callV (mc' := 0) (ms' := 0) C dX7_readsSetup_84 (c_X7_takesSign hl hM hP_F11 (nI 59)) mf_X7_takesSign q3725 q3727 qs71 (Or.inl hM.1) rfl rfl rfl (Nat.le_of_ble_eq_true rfl) (by decide) rfl rfl (fun r h hP => ?_) (fun _ _ _ hX => False.elim hX)
  obtain ⟨rfl, hM⟩ := hP
  obtain ⟨F13, eF13, hM⟩ := MW.nameF hM
  have hP_F13 : Pok F13 := by rw [eF13]; exact hP_F11.sign _ _
  have hKh : Nok n12 := by have q_ := en12.symm; subst q_; have q_ := en10.symm; subst q_; have q_ := en8.symm; subst q_; have q_ := en6.symm; subst q_; have q_ := en4.symm; subst q_; exact ⟨by (repeat rw [va_ne (by omega)]); exact hN.1, by (repeat rw [va_ne (by omega)]); exact hN.2.1, by (repeat rw [va_ne (by omega)]); exact hN.2.2⟩
  have eh : (F13, n12) = sp_head (B 9) (F, n) := by dsimp only [sp_head, sp_head0]; rw [eF13, en12, eF11, en10, eF9, en8, eF7, en6, eF5, en4, eF3, eF2, eF1]
  refine x_aload_n C dX7_readsSetup_87 rfl ?_
  refine x_callV (mc' := 0) (ms' := 0) C dX7_readsSetup_88 (c_X7_readsStreet hl hM hP_F13 hW hKh) mf_X7_readsStreet q3733 q3735 qs73 (Or.inl hM.1) rfl rfl rfl (Nat.le_of_ble_eq_true rfl) (by decide) rfl rfl (fun r h hP => ?_) (fun _ _ _ hX => False.elim hX)
  obtain ⟨rfl, hM⟩ := hP
  obtain ⟨F14, eF14, hM⟩ := MW.nameF hM
  have hP_F14 : Pok F14 := by rw [eF14]; exact hP_F13.street _ _
  obtain ⟨n15, en15, hM⟩ := MW.nameN hM
  have hK_n15 : Nok n15 := by rw [en15]; exact hKh.street.1
  have eb91 : (F14, n15) = sp_street (B 9) (F13, n12) := by dsimp only [sp_street]; rw [eF14, en15]
  have L91 : ∀ (d : Nat) (e91 : Nat) (x91 : FN), e91 = d → (sp_streets (B 9) e91 x91 = sp_streets (B 9) 10 (F14, n15)) → (x91.1 17 = 0 → 9 - cn (x91.2 6) ≤ e91) → (Pok x91.1) → (Nok x91.2) → ∀ h, MW m A x91.1 x91.2 B h0 h → xW G E 1 0 0 h 91 [(0, .ref m)] [] := by
    intro d
    induction d using Nat.strongRecOn with | _ d ih91 => ?_
    intro e91 x91 hd91 hr91 hm91 hp91 hk91 h hM
    refine x_aload_n C dX7_readsSetup_91 rfl ?_
    refine x_ldcS C 24 dX7_readsSetup_92 rfl ?_
    refine x_callV (mc' := 0) (ms' := 0) C dX7_readsSetup_94 (c_X7_isWord hl hM hp91 hW (hW.txt 24 _ rfl)) mf_X7_isWord q3705 q3707 qs66 (Or.inl hM.1) rfl rfl rfl (Nat.le_of_ble_eq_true rfl) (by decide) rfl rfl (fun r h hP => ?_) (fun _ _ _ hX => False.elim hX)
    obtain ⟨rfl, hM⟩ := hP
    by_cases hb_97 : sp_isWord (B 9) x91.1 (tx "street") = true
    · refine x_toi (nI 1) (bI_T hb_97) ?_
      refine x_if_eq C 107 dX7_readsSetup_97 (by decide) (fun c_97 => ?_) (fun c_97 => ?_)
      · exact absurd c_97 (by decide)
      have hg91 := sp_streets_m (b := B 9) hk91 (sp_isWord_live hb_97) hm91
      refine x_aload_n C dX7_readsSetup_100 rfl ?_
      refine x_callV (mc' := 0) (ms' := 0) C dX7_readsSetup_101 (c_X7_readsStreet hl hM hp91 hW hk91) mf_X7_readsStreet q3733 q3735 qs73 (Or.inl hM.1) rfl rfl rfl (Nat.le_of_ble_eq_true rfl) (by decide) rfl rfl (fun r h hP => ?_) (fun _ _ _ hX => False.elim hX)
      obtain ⟨rfl, hM⟩ := hP
      obtain ⟨F16, eF16, hM⟩ := MW.nameF hM
      have hP_F16 : Pok F16 := by rw [eF16]; exact hp91.street _ _
      obtain ⟨n17, en17, hM⟩ := MW.nameN hM
      have hK_n17 : Nok n17 := by rw [en17]; exact hk91.street.1
      refine x_goto C 91 dX7_readsSetup_104 (by decide) ?_
      refine x_locs2 [(0, .ref m)] ⟨rfl, trivial⟩ ?_
      exact ih91 _ (by have := hg91.1; omega) (e91 - 1) (sp_street (B 9) x91) rfl (by rw [← hr91]; exact (sp_streets_go hb_97 hg91.1).symm) hg91.2 (hp91.streetx _) (hk91.streetx _) h (by have q_ := en17.symm; subst q_; have q_ := eF16.symm; subst q_; dsimp only [sp_street]; exact hM)
    · refine x_toi (nI 0) (bI_Fn hb_97) ?_
      refine x_if_eq C 107 dX7_readsSetup_97 (by decide) (fun c_97 => ?_) (fun c_97 => ?_)
      rotate_left
      · exact absurd c_97 (by decide)
      have ex91 : x91 = sp_streets (B 9) 10 (F14, n15) := by rw [← hr91]; exact (sp_streets_stop hb_97 _).symm
      refine x_aload_n C dX7_readsSetup_107 rfl ?_
      refine x_callV (mc' := 0) (ms' := 0) C dX7_readsSetup_108 (c_X7_readsGarden hl hM hp91 hW hk91) mf_X7_readsGarden q3774 q3776 qs83 (Or.inl hM.1) rfl rfl rfl (Nat.le_of_ble_eq_true rfl) (by decide) rfl rfl (fun r h hP => ?_) (fun _ _ _ hX => False.elim hX)
      obtain ⟨rfl, hM⟩ := hP
      obtain ⟨F18, eF18, hM⟩ := MW.nameF hM
      have hP_F18 : Pok F18 := by rw [eF18]; exact hp91.garden _ _
      obtain ⟨n19, en19, hM⟩ := MW.nameN hM
      have hK_n19 : Nok n19 := by rw [en19]; exact hk91.garden.1
      have eb111 : (F18, n19) = sp_garden (B 9) x91 := by dsimp only [sp_garden]; rw [eF18, en19]
      have L111 : ∀ (d : Nat) (e111 : Nat) (x111 : FN), e111 = d → (sp_gardens (B 9) e111 x111 = sp_gardens (B 9) 8 (F18, n19)) → (x111.1 17 = 0 → 7 - cn (x111.2 7) ≤ e111) → (Pok x111.1) → (Nok x111.2) → ∀ h, MW m A x111.1 x111.2 B h0 h → xW G E 1 0 0 h 111 [(0, .ref m)] [] := by
        intro d
        induction d using Nat.strongRecOn with | _ d ih111 => ?_
        intro e111 x111 hd111 hr111 hm111 hp111 hk111 h hM
        refine x_aload_n C dX7_readsSetup_111 rfl ?_
        refine x_ldcwS C 25 dX7_readsSetup_112 rfl ?_
        refine x_callV (mc' := 0) (ms' := 0) C dX7_readsSetup_115 (c_X7_isWord hl hM hp111 hW (hW.txt 25 _ rfl)) mf_X7_isWord q3705 q3707 qs66 (Or.inl hM.1) rfl rfl rfl (Nat.le_of_ble_eq_true rfl) (by decide) rfl rfl (fun r h hP => ?_) (fun _ _ _ hX => False.elim hX)
        obtain ⟨rfl, hM⟩ := hP
        by_cases hb_118 : sp_isWord (B 9) x111.1 (tx "garden") = true
        · refine x_toi (nI 1) (bI_T hb_118) ?_
          refine x_if_eq C 128 dX7_readsSetup_118 (by decide) (fun c_118 => ?_) (fun c_118 => ?_)
          · exact absurd c_118 (by decide)
          have hg111 := sp_gardens_m (b := B 9) hk111 (sp_isWord_live hb_118) hm111
          refine x_aload_n C dX7_readsSetup_121 rfl ?_
          refine x_callV (mc' := 0) (ms' := 0) C dX7_readsSetup_122 (c_X7_readsGarden hl hM hp111 hW hk111) mf_X7_readsGarden q3774 q3776 qs83 (Or.inl hM.1) rfl rfl rfl (Nat.le_of_ble_eq_true rfl) (by decide) rfl rfl (fun r h hP => ?_) (fun _ _ _ hX => False.elim hX)
          obtain ⟨rfl, hM⟩ := hP
          obtain ⟨F20, eF20, hM⟩ := MW.nameF hM
          have hP_F20 : Pok F20 := by rw [eF20]; exact hp111.garden _ _
          obtain ⟨n21, en21, hM⟩ := MW.nameN hM
          have hK_n21 : Nok n21 := by rw [en21]; exact hk111.garden.1
          refine x_goto C 111 dX7_readsSetup_125 (by decide) ?_
          refine x_locs2 [(0, .ref m)] ⟨rfl, trivial⟩ ?_
          exact ih111 _ (by have := hg111.1; omega) (e111 - 1) (sp_garden (B 9) x111) rfl (by rw [← hr111]; exact (sp_gardens_go hb_118 hg111.1).symm) hg111.2 (hp111.gardenx _) (hk111.gardenx _) h (by have q_ := en21.symm; subst q_; have q_ := eF20.symm; subst q_; dsimp only [sp_garden]; exact hM)
        · refine x_toi (nI 0) (bI_Fn hb_118) ?_
          refine x_if_eq C 128 dX7_readsSetup_118 (by decide) (fun c_118 => ?_) (fun c_118 => ?_)
          rotate_left
          · exact absurd c_118 (by decide)
          have ex111 : x111 = sp_gardens (B 9) 8 (F18, n19) := by rw [← hr111]; exact (sp_gardens_stop hb_118 _).symm
          refine x_aload_n C dX7_readsSetup_128 rfl ?_
          refine x_callV (mc' := 0) (ms' := 0) C dX7_readsSetup_129 (c_X7_readsCart hl hM hp111 hW hk111) mf_X7_readsCart q3779 q3781 qs84 (Or.inl hM.1) rfl rfl rfl (Nat.le_of_ble_eq_true rfl) (by decide) rfl rfl (fun r h hP => ?_) (fun _ _ _ hX => False.elim hX)
          obtain ⟨rfl, hM⟩ := hP
          obtain ⟨F22, eF22, hM⟩ := MW.nameF hM
          have hP_F22 : Pok F22 := by rw [eF22]; exact hp111.cart _ _
          obtain ⟨n23, en23, hM⟩ := MW.nameN hM
          have hK_n23 : Nok n23 := by rw [en23]; exact hk111.cart.1
          have eb132 : (F22, n23) = sp_cart (B 9) x111 := by dsimp only [sp_cart]; rw [eF22, en23]
          have L132 : ∀ (d : Nat) (e132 : Nat) (x132 : FN), e132 = d → (sp_carts (B 9) e132 x132 = sp_carts (B 9) 8 (F22, n23)) → (x132.1 17 = 0 → 7 - cn (x132.2 8) ≤ e132) → (Pok x132.1) → (Nok x132.2) → ∀ h, MW m A x132.1 x132.2 B h0 h → xW G E 1 0 0 h 132 [(0, .ref m)] [] := by
            intro d
            induction d using Nat.strongRecOn with | _ d ih132 => ?_
            intro e132 x132 hd132 hr132 hm132 hp132 hk132 h hM
            refine x_aload_n C dX7_readsSetup_132 rfl ?_
            refine m_getI C dX7_readsSetup_133 fl_X7_198_6 hM rfl ?_
            refine x_if_ne C 153 dX7_readsSetup_136 (by decide) (fun c_136 => ?_) (fun c_136 => ?_)
            · skip
              have ex132 : x132 = sp_carts (B 9) 8 (F22, n23) := by rw [← hr132]; exact (sp_carts_stop (fun q => c_136 q.1) _).symm
              exact x_ret B0 dX7_readsSetup_153 rfl (by have e : x132 = sp_setup (B 9) (F, n) := (by unfold sp_setup; rw [ex132, eb132, ex111, eb111, ex91, eb91, eh]); rw [← e]; exact ⟨rfl, hM⟩)
            · skip
              refine x_aload_n C dX7_readsSetup_139 rfl ?_
              refine m_getI C dX7_readsSetup_140 fl_X7_192_6 hM rfl ?_
              refine x_if_eq C 153 dX7_readsSetup_143 (by decide) (fun c_143 => ?_) (fun c_143 => ?_)
              · skip
                have ex132 : x132 = sp_carts (B 9) 8 (F22, n23) := by rw [← hr132]; exact (sp_carts_stop (fun q => q.2 c_143) _).symm
                exact x_ret B0 dX7_readsSetup_153 rfl (by have e : x132 = sp_setup (B 9) (F, n) := (by unfold sp_setup; rw [ex132, eb132, ex111, eb111, ex91, eb91, eh]); rw [← e]; exact ⟨rfl, hM⟩)
              · skip
                have hg132 := sp_carts_m (b := B 9) hk132 (c_136) hm132
                refine x_aload_n C dX7_readsSetup_146 rfl ?_
                refine x_callV (mc' := 0) (ms' := 0) C dX7_readsSetup_147 (c_X7_readsCart hl hM hp132 hW hk132) mf_X7_readsCart q3779 q3781 qs84 (Or.inl hM.1) rfl rfl rfl (Nat.le_of_ble_eq_true rfl) (by decide) rfl rfl (fun r h hP => ?_) (fun _ _ _ hX => False.elim hX)
                obtain ⟨rfl, hM⟩ := hP
                obtain ⟨F24, eF24, hM⟩ := MW.nameF hM
                have hP_F24 : Pok F24 := by rw [eF24]; exact hp132.cart _ _
                obtain ⟨n25, en25, hM⟩ := MW.nameN hM
                have hK_n25 : Nok n25 := by rw [en25]; exact hk132.cart.1
                refine x_goto C 132 dX7_readsSetup_150 (by decide) ?_
                refine x_locs2 [(0, .ref m)] ⟨rfl, trivial⟩ ?_
                exact ih132 _ (by have := hg132.1; omega) (e132 - 1) (sp_cart (B 9) x132) rfl (by rw [← hr132]; exact (sp_carts_go ⟨c_136, c_143⟩ hg132.1).symm) hg132.2 (hp132.cartx _) (hk132.cartx _) h (by have q_ := en25.symm; subst q_; have q_ := eF24.symm; subst q_; dsimp only [sp_cart]; exact hM)
          refine x_locs2 [(0, .ref m)] ⟨rfl, trivial⟩ ?_
          exact L132 _ 8 (F22, n23) rfl rfl (fun _ => by show 7 - _ ≤ 8; omega) hP_F22 hK_n23 h hM
      refine x_locs2 [(0, .ref m)] ⟨rfl, trivial⟩ ?_
      exact L111 _ 8 (F18, n19) rfl rfl (fun _ => by show 7 - _ ≤ 8; omega) hP_F18 hK_n19 h hM
  refine x_locs2 [(0, .ref m)] ⟨rfl, trivial⟩ ?_
  exact L91 _ 10 (F14, n15) rfl rfl (fun _ => by show 9 - _ ≤ 10; omega) hP_F14 hK_n15 h hM
