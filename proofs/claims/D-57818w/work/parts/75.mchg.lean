/-! ===== the reference: advancing, signing ===== -/
theorem c_X7_advancing_t {G : xG} {l : Launch} (hl : l.stackTraces = false) {m : Nat} {A : Nat → Nat} {F n : Nat → Int32} {B : Nat → Nat → Int32} {h0 h : xAH} (hM : MW m A F n B h0 h) {S Gn Cn T : Nat} (hI : Ginv n S Gn Cn T) (u : Nat) (hU : F 6 = nI u) (hu8 : u ≤ 8) (sc : Bool) (hsc : F 29 = bI sc) (h7 : F 7 = 0) (x : Nat) (h1 : 1 ≤ x) (h30 : x ≤ 30) (hle : cn (n 5) + x ≤ 9999) (hT2 : T + x < 20000) : xM G l yX7_advancing cX7_advancing 3 (Option.some Jvm.ClassFile.FieldType.int) [] 7 0 0 [.ref m, .int (nI x)] h (fun r h2 => r = some (.int (sp_nights n S Gn Cn x 11 - n 11)) ∧ MW m A (sp_nightsF (sp_chF F u sc) n S Gn Cn x) (sp_nights n S Gn Cn x) (sp_chB B n u sc) h0 h2) xNo := by
  refine xcode_start (by decide) (Nat.le_of_ble_eq_true rfl) hl ?_
  intro E hE B0
  subst hE
  have C := B0.1
  have hS8 := hI.S8; have hG6 := hI.G6; have hC6 := hI.C6; have hT := hI.T0
  show xW G E 3 0 0 h 0 [(0, .ref m), (1, .int (nI x))] []
  refine x_aload_n C dX7_advancing_0 rfl ?_
  refine x_iload_n C dX7_advancing_1 rfl ?_
  refine x_iconst C (nI 1) dX7_advancing_2 rfl ?_
  refine x_bipush C (nI 30) dX7_advancing_3 rfl ?_
  refine x_callS (mc' := 0) (ms' := 0) C dX7_advancing_5 (c_X7_in hl hM (nI x) (nI 1) (nI 30)) mf_X7_in q3696 q3697 rfl rfl (Nat.le_of_ble_eq_true rfl) (by decide) rfl rfl (fun r h hP => ?_) (fun _ _ _ hX => False.elim hX)
  obtain ⟨rfl, hM⟩ := hP
  refine x_toi (nI 1) (bI_t ⟨nI_le h1 (by omega), nI_le h30 (by decide)⟩) ?_
  refine x_iconst C (nI 1) dX7_advancing_8 rfl ?_
  refine x_callV (mc' := 0) (ms' := 0) C dX7_advancing_9 (c_X7_right_t hl hM (nI 1) h7) mf_X7_right q3901 q3903 qs87 (Or.inl hM.1) rfl rfl rfl (Nat.le_of_ble_eq_true rfl) (by decide) rfl rfl (fun r h hP => ?_) (fun _ _ _ hX => False.elim hX)
  obtain ⟨rfl, hM⟩ := hP
  refine x_if_eq C 42 dX7_advancing_12 (by decide) (fun c_12 => ?_) (fun c_12 => ?_)
  · exact absurd c_12 (by decide)
  · skip
    have c_12 := (xn_eqF 1 0 c_12 (by omega) (by omega))
    refine x_aload_n C dX7_advancing_15 rfl ?_
    refine x_aload_n C dX7_advancing_16 rfl ?_
    refine m_getN C dX7_advancing_17 fl_X7_7_6 hM ?_
    refine x_iconst C (nI 5) dX7_advancing_20 rfl ?_
    refine m_ldN C dX7_advancing_21 hM (j := 5) rfl (by omega) ?_
    have hb_21 := hI.t.2
    refine x_toi (nI (cn (n 5))) hI.t.1 ?_
    refine x_iload_n C dX7_advancing_22 rfl ?_
    refine x_iadd C dX7_advancing_23 ?_
    refine x_toi (nI ((cn (n 5)) + x)) (nI_add _ _) ?_
    refine x_sipush C (nI 9999) dX7_advancing_24 rfl ?_
    refine x_sel_icmp_gt C 34 35 dX7_advancing_27 (by decide) dX7_advancing_30 dX7_advancing_31 (by decide) dX7_advancing_34 rfl ?_
    refine x_toi (nI 1) (bI_t (nI_le hle (by decide))) ?_
    refine x_iconst C (nI 2) dX7_advancing_35 rfl ?_
    refine x_callV (mc' := 0) (ms' := 0) C dX7_advancing_36 (c_X7_right_t hl hM (nI 2) h7) mf_X7_right q3901 q3903 qs87 (Or.inl hM.1) rfl rfl rfl (Nat.le_of_ble_eq_true rfl) (by decide) rfl rfl (fun r h hP => ?_) (fun _ _ _ hX => False.elim hX)
    obtain ⟨rfl, hM⟩ := hP
    refine x_if_ne C 44 dX7_advancing_39 (by decide) (fun c_39 => ?_) (fun c_39 => ?_)
    · skip
      have c_39 := (xn_neT 1 0 c_39 (by omega) (by omega))
      refine x_aload_n C dX7_advancing_44 rfl ?_
      refine x_callV (mc' := 0) (ms' := 0) C dX7_advancing_45 (c_X7_changes hl hM u hU hu8 sc hsc) mf_X7_changes q3995 q3997 qs104 (Or.inl hM.1) rfl rfl rfl (Nat.le_of_ble_eq_true rfl) (by decide) rfl rfl (fun r h hP => ?_) (fun _ _ _ hX => False.elim hX)
      obtain ⟨rfl, hM⟩ := hP
      obtain ⟨F1, eF1, hM⟩ := MW.nameF hM
      obtain ⟨B2, eB2, hM⟩ := MW.nameB hM
      refine x_aload_n C dX7_advancing_48 rfl ?_
      refine m_getN C dX7_advancing_49 fl_X7_7_6 hM ?_
      refine x_bipush C (nI 11) dX7_advancing_52 rfl ?_
      refine m_ldN C dX7_advancing_54 hM (j := 11) rfl (by omega) ?_
      refine x_istore_n C dX7_advancing_55 (by decide) rfl ?_
      refine x_aload_n C dX7_advancing_56 rfl ?_
      refine x_iload_n C dX7_advancing_57 rfl ?_
      refine x_callV (mc' := 0) (ms' := 0) C dX7_advancing_58 (c_X7_runs hl hM hI x (by omega)) mf_X7_runs q4012 q4014 qs108 (Or.inl hM.1) rfl rfl rfl (Nat.le_of_ble_eq_true rfl) (by decide) rfl rfl (fun r h hP => ?_) (fun _ _ _ hX => False.elim hX)
      obtain ⟨rfl, hM⟩ := hP
      obtain ⟨F3, eF3, hM⟩ := MW.nameF hM
      obtain ⟨n4, en4, hM⟩ := MW.nameN hM
      have hI_n4 : Ginv n4 S Gn Cn ((T) + x) := by rw [en4]; exact (hI.nights (k := x) (by omega))
      refine x_aload_n C dX7_advancing_61 rfl ?_
      refine m_getN C dX7_advancing_62 fl_X7_7_6 hM ?_
      refine x_bipush C (nI 11) dX7_advancing_65 rfl ?_
      refine m_ldN C dX7_advancing_67 hM (j := 11) rfl (by omega) ?_
      refine x_iload_n C dX7_advancing_68 rfl ?_
      refine x_isub C dX7_advancing_69 ?_
      exact x_iret B0 dX7_advancing_70 rfl (by have q_ := en4.symm; subst q_; have q_ := eF3.symm; subst q_; have q_ := eB2.symm; subst q_; have q_ := eF1.symm; subst q_; exact ⟨rfl, hM⟩)
    · exact absurd c_39 (by decide)
theorem c_X7_advancing_l {G : xG} {l : Launch} (hl : l.stackTraces = false) {m : Nat} {A : Nat → Nat} {F n : Nat → Int32} {B : Nat → Nat → Int32} {h0 h : xAH} (hM : MW m A F n B h0 h) {S Gn Cn T : Nat} (hI : Ginv n S Gn Cn T) (h7 : F 7 = 0) (x : Nat) (h1 : 1 ≤ x) (h30 : x ≤ 30) (hle : ¬ cn (n 5) + x ≤ 9999) : xM G l yX7_advancing cX7_advancing 3 (Option.some Jvm.ClassFile.FieldType.int) [] 7 0 0 [.ref m, .int (nI x)] h (fun r h2 => r = some (.int (nI 0)) ∧ MW m A (va_up F 7 (nI 2)) n B h0 h2) xNo := by
  refine xcode_start (by decide) (Nat.le_of_ble_eq_true rfl) hl ?_
  intro E hE B0
  subst hE
  have C := B0.1
  have hS8 := hI.S8; have hG6 := hI.G6; have hC6 := hI.C6; have hT := hI.T0
  show xW G E 3 0 0 h 0 [(0, .ref m), (1, .int (nI x))] []
  refine x_aload_n C dX7_advancing_0 rfl ?_
  refine x_iload_n C dX7_advancing_1 rfl ?_
  refine x_iconst C (nI 1) dX7_advancing_2 rfl ?_
  refine x_bipush C (nI 30) dX7_advancing_3 rfl ?_
  refine x_callS (mc' := 0) (ms' := 0) C dX7_advancing_5 (c_X7_in hl hM (nI x) (nI 1) (nI 30)) mf_X7_in q3696 q3697 rfl rfl (Nat.le_of_ble_eq_true rfl) (by decide) rfl rfl (fun r h hP => ?_) (fun _ _ _ hX => False.elim hX)
  obtain ⟨rfl, hM⟩ := hP
  refine x_toi (nI 1) (bI_t ⟨nI_le h1 (by omega), nI_le h30 (by decide)⟩) ?_
  refine x_iconst C (nI 1) dX7_advancing_8 rfl ?_
  refine x_callV (mc' := 0) (ms' := 0) C dX7_advancing_9 (c_X7_right_t hl hM (nI 1) h7) mf_X7_right q3901 q3903 qs87 (Or.inl hM.1) rfl rfl rfl (Nat.le_of_ble_eq_true rfl) (by decide) rfl rfl (fun r h hP => ?_) (fun _ _ _ hX => False.elim hX)
  obtain ⟨rfl, hM⟩ := hP
  refine x_if_eq C 42 dX7_advancing_12 (by decide) (fun c_12 => ?_) (fun c_12 => ?_)
  · exact absurd c_12 (by decide)
  · skip
    have c_12 := (xn_eqF 1 0 c_12 (by omega) (by omega))
    refine x_aload_n C dX7_advancing_15 rfl ?_
    refine x_aload_n C dX7_advancing_16 rfl ?_
    refine m_getN C dX7_advancing_17 fl_X7_7_6 hM ?_
    refine x_iconst C (nI 5) dX7_advancing_20 rfl ?_
    refine m_ldN C dX7_advancing_21 hM (j := 5) rfl (by omega) ?_
    have hb_21 := hI.t.2
    refine x_toi (nI (cn (n 5))) hI.t.1 ?_
    refine x_iload_n C dX7_advancing_22 rfl ?_
    refine x_iadd C dX7_advancing_23 ?_
    refine x_toi (nI ((cn (n 5)) + x)) (nI_add _ _) ?_
    refine x_sipush C (nI 9999) dX7_advancing_24 rfl ?_
    refine x_sel_icmp_gt C 34 35 dX7_advancing_27 (by decide) dX7_advancing_30 dX7_advancing_31 (by decide) dX7_advancing_34 rfl ?_
    refine x_toi (nI 0) (bI_f (nI_ge (by omega) (by omega))) ?_
    refine x_iconst C (nI 2) dX7_advancing_35 rfl ?_
    refine x_callV (mc' := 0) (ms' := 0) C dX7_advancing_36 (c_X7_right_f hl hM (nI 2) h7 (by decide)) mf_X7_right q3901 q3903 qs87 (Or.inl hM.1) rfl rfl rfl (Nat.le_of_ble_eq_true rfl) (by decide) rfl rfl (fun r h hP => ?_) (fun _ _ _ hX => False.elim hX)
    obtain ⟨rfl, hM⟩ := hP
    obtain ⟨F1, eF1, hM⟩ := MW.nameF hM
    refine x_if_ne C 44 dX7_advancing_39 (by decide) (fun c_39 => ?_) (fun c_39 => ?_)
    · exact absurd c_39 (by decide)
    · skip
      have c_39 := (xn_neF 0 0 c_39 (by omega) (by omega))
      refine x_iconst C (nI 0) dX7_advancing_42 rfl ?_
      exact x_iret B0 dX7_advancing_43 rfl (by have q_ := eF1.symm; subst q_; exact ⟨rfl, hM⟩)
theorem c_X7_advancing_f {G : xG} {l : Launch} (hl : l.stackTraces = false) {m : Nat} {A : Nat → Nat} {F n : Nat → Int32} {B : Nat → Nat → Int32} {h0 h : xAH} (hM : MW m A F n B h0 h) (h7 : F 7 = 0) (x : Int32) (hx : ¬ (nI 1 ≤ x ∧ x ≤ nI 30)) : xM G l yX7_advancing cX7_advancing 3 (Option.some Jvm.ClassFile.FieldType.int) [] 7 0 0 [.ref m, .int x] h (fun r h2 => r = some (.int (nI 0)) ∧ MW m A (va_up F 7 (nI 1)) n B h0 h2) xNo := by
  refine xcode_start (by decide) (Nat.le_of_ble_eq_true rfl) hl ?_
  intro E hE B0
  subst hE
  have C := B0.1
  show xW G E 3 0 0 h 0 [(0, .ref m), (1, .int x)] []
  refine x_aload_n C dX7_advancing_0 rfl ?_
  refine x_iload_n C dX7_advancing_1 rfl ?_
  refine x_iconst C (nI 1) dX7_advancing_2 rfl ?_
  refine x_bipush C (nI 30) dX7_advancing_3 rfl ?_
  refine x_callS (mc' := 0) (ms' := 0) C dX7_advancing_5 (c_X7_in hl hM x (nI 1) (nI 30)) mf_X7_in q3696 q3697 rfl rfl (Nat.le_of_ble_eq_true rfl) (by decide) rfl rfl (fun r h hP => ?_) (fun _ _ _ hX => False.elim hX)
  obtain ⟨rfl, hM⟩ := hP
  refine x_toi (nI 0) (bI_f hx) ?_
  refine x_iconst C (nI 1) dX7_advancing_8 rfl ?_
  refine x_callV (mc' := 0) (ms' := 0) C dX7_advancing_9 (c_X7_right_f hl hM (nI 1) h7 (by decide)) mf_X7_right q3901 q3903 qs87 (Or.inl hM.1) rfl rfl rfl (Nat.le_of_ble_eq_true rfl) (by decide) rfl rfl (fun r h hP => ?_) (fun _ _ _ hX => False.elim hX)
  obtain ⟨rfl, hM⟩ := hP
  obtain ⟨F1, eF1, hM⟩ := MW.nameF hM
  refine x_if_eq C 42 dX7_advancing_12 (by decide) (fun c_12 => ?_) (fun c_12 => ?_)
  · skip
    have c_12 := (xn_eqT 0 0 c_12 (by omega) (by omega))
    refine x_iconst C (nI 0) dX7_advancing_42 rfl ?_
    exact x_iret B0 dX7_advancing_43 rfl (by have q_ := eF1.symm; subst q_; exact ⟨rfl, hM⟩)
  · exact absurd c_12 (by decide)
theorem c_X7_signing_t {G : xG} {l : Launch} (hl : l.stackTraces = false) {m : Nat} {A : Nat → Nat} {F n : Nat → Int32} {B : Nat → Nat → Int32} {h0 h : xAH} (hM : MW m A F n B h0 h) {S Gn Cn T : Nat} (hI : Ginv n S Gn Cn T) (u : Nat) (hU : F 6 = nI u) (hu8 : u ≤ 8) (sc : Bool) (hsc : F 29 = bI sc) (h7 : F 7 = 0) (c s g : Nat) (hc : c < Cn) (hs : s < S) (hg : g < Gn) (x : Nat) (h1 : 1 ≤ x) (h30 : x ≤ 30) (hb : ¬ 0 < n (142 + 5 * c + 4)) : xM G l yX7_signing cX7_signing 5 (Option.some Jvm.ClassFile.FieldType.int) [] 3 0 0 [.ref m, .int (nI c), .int (nI s), .int (nI g), .int (nI x)] h (fun r h2 => r = some (.int (sp_hours (sp_signN n c s g x) c s g)) ∧ MW m A (sp_chF F u sc) (sp_signN n c s g x) (sp_chB B n u sc) h0 h2) xNo := by
  refine xcode_start (by decide) (Nat.le_of_ble_eq_true rfl) hl ?_
  intro E hE B0
  subst hE
  have C := B0.1
  have hS8 := hI.S8; have hG6 := hI.G6; have hC6 := hI.C6; have hT := hI.T0
  show xW G E 5 0 0 h 0 [(0, .ref m), (1, .int (nI c)), (2, .int (nI s)), (3, .int (nI g)), (4, .int (nI x))] []
  refine x_aload_n C dX7_signing_0 rfl ?_
  refine x_aload_n C dX7_signing_1 rfl ?_
  refine x_iload_n C dX7_signing_2 rfl ?_
  refine x_callV (mc' := 0) (ms' := 0) C dX7_signing_3 (c_X7_isCart hl hM hI (nI c)) mf_X7_isCart q3975 q3977 qs99 (Or.inl hM.1) rfl rfl rfl (Nat.le_of_ble_eq_true rfl) (by decide) rfl rfl (fun r h hP => ?_) (fun _ _ _ hX => False.elim hX)
  obtain ⟨rfl, hM⟩ := hP
  refine x_toi (nI 1) (bI_t (isIn_nI hc (by omega))) ?_
  refine x_if_eq C 29 dX7_signing_6 (by decide) (fun c_6 => ?_) (fun c_6 => ?_)
  · exact absurd c_6 (by decide)
  · skip
    have c_6 := (xn_eqF 1 0 c_6 (by omega) (by omega))
    refine x_aload_n C dX7_signing_9 rfl ?_
    refine x_iload_n C dX7_signing_10 rfl ?_
    refine x_callV (mc' := 0) (ms' := 0) C dX7_signing_11 (c_X7_isStreet hl hM hI (nI s)) mf_X7_isStreet q3979 q3981 qs100 (Or.inl hM.1) rfl rfl rfl (Nat.le_of_ble_eq_true rfl) (by decide) rfl rfl (fun r h hP => ?_) (fun _ _ _ hX => False.elim hX)
    obtain ⟨rfl, hM⟩ := hP
    refine x_toi (nI 1) (bI_t (isIn_nI hs (by omega))) ?_
    refine x_if_eq C 29 dX7_signing_14 (by decide) (fun c_14 => ?_) (fun c_14 => ?_)
    · exact absurd c_14 (by decide)
    · skip
      have c_14 := (xn_eqF 1 0 c_14 (by omega) (by omega))
      refine x_aload_n C dX7_signing_17 rfl ?_
      refine x_iload_n C dX7_signing_18 rfl ?_
      refine x_callV (mc' := 0) (ms' := 0) C dX7_signing_19 (c_X7_isGarden hl hM hI (nI g)) mf_X7_isGarden q3983 q3985 qs101 (Or.inl hM.1) rfl rfl rfl (Nat.le_of_ble_eq_true rfl) (by decide) rfl rfl (fun r h hP => ?_) (fun _ _ _ hX => False.elim hX)
      obtain ⟨rfl, hM⟩ := hP
      refine x_toi (nI 1) (bI_t (isIn_nI hg (by omega))) ?_
      refine x_if_eq C 29 dX7_signing_22 (by decide) (fun c_22 => ?_) (fun c_22 => ?_)
      · exact absurd c_22 (by decide)
      · skip
        have c_22 := (xn_eqF 1 0 c_22 (by omega) (by omega))
        refine x_iconst C (nI 1) dX7_signing_25 rfl ?_
        refine x_goto C 30 dX7_signing_26 (by decide) ?_
        refine x_iconst C (nI 1) dX7_signing_30 rfl ?_
        refine x_callV (mc' := 0) (ms' := 0) C dX7_signing_31 (c_X7_right_t hl hM (nI 1) h7) mf_X7_right q3901 q3903 qs87 (Or.inl hM.1) rfl rfl rfl (Nat.le_of_ble_eq_true rfl) (by decide) rfl rfl (fun r h hP => ?_) (fun _ _ _ hX => False.elim hX)
        obtain ⟨rfl, hM⟩ := hP
        refine x_if_eq C 74 dX7_signing_34 (by decide) (fun c_34 => ?_) (fun c_34 => ?_)
        · exact absurd c_34 (by decide)
        · skip
          have c_34 := (xn_eqF 1 0 c_34 (by omega) (by omega))
          refine x_aload_n C dX7_signing_37 rfl ?_
          refine x_iload C dX7_signing_38 rfl ?_
          refine x_iconst C (nI 1) dX7_signing_40 rfl ?_
          refine x_bipush C (nI 30) dX7_signing_41 rfl ?_
          refine x_callS (mc' := 0) (ms' := 0) C dX7_signing_43 (c_X7_in hl hM (nI x) (nI 1) (nI 30)) mf_X7_in q3696 q3697 rfl rfl (Nat.le_of_ble_eq_true rfl) (by decide) rfl rfl (fun r h hP => ?_) (fun _ _ _ hX => False.elim hX)
          obtain ⟨rfl, hM⟩ := hP
          refine x_toi (nI 1) (bI_t ⟨nI_le h1 (by omega), nI_le h30 (by decide)⟩) ?_
          refine x_iconst C (nI 2) dX7_signing_46 rfl ?_
          refine x_callV (mc' := 0) (ms' := 0) C dX7_signing_47 (c_X7_right_t hl hM (nI 2) h7) mf_X7_right q3901 q3903 qs87 (Or.inl hM.1) rfl rfl rfl (Nat.le_of_ble_eq_true rfl) (by decide) rfl rfl (fun r h hP => ?_) (fun _ _ _ hX => False.elim hX)
          obtain ⟨rfl, hM⟩ := hP
          refine x_if_eq C 74 dX7_signing_50 (by decide) (fun c_50 => ?_) (fun c_50 => ?_)
          · exact absurd c_50 (by decide)
          · skip
            have c_50 := (xn_eqF 1 0 c_50 (by omega) (by omega))
            refine x_aload_n C dX7_signing_53 rfl ?_
            refine x_aload_n C dX7_signing_54 rfl ?_
            refine x_iload_n C dX7_signing_55 rfl ?_
            refine x_callV (mc' := 0) (ms' := 0) C dX7_signing_56 (c_X7_isBound hl hM c (by omega)) mf_X7_isBound q3987 q3989 qs102 (Or.inl hM.1) rfl rfl rfl (Nat.le_of_ble_eq_true rfl) (by decide) rfl rfl (fun r h hP => ?_) (fun _ _ _ hX => False.elim hX)
            obtain ⟨rfl, hM⟩ := hP
            refine x_toi (nI 0) (bI_f hb) ?_
            refine x_if_ne C 66 dX7_signing_59 (by decide) (fun c_59 => ?_) (fun c_59 => ?_)
            · exact absurd c_59 (by decide)
            · skip
              have c_59 := (xn_neF 0 0 c_59 (by omega) (by omega))
              refine x_iconst C (nI 1) dX7_signing_62 rfl ?_
              refine x_goto C 67 dX7_signing_63 (by decide) ?_
              refine x_iconst C (nI 3) dX7_signing_67 rfl ?_
              refine x_callV (mc' := 0) (ms' := 0) C dX7_signing_68 (c_X7_right_t hl hM (nI 3) h7) mf_X7_right q3901 q3903 qs87 (Or.inl hM.1) rfl rfl rfl (Nat.le_of_ble_eq_true rfl) (by decide) rfl rfl (fun r h hP => ?_) (fun _ _ _ hX => False.elim hX)
              obtain ⟨rfl, hM⟩ := hP
              refine x_if_ne C 76 dX7_signing_71 (by decide) (fun c_71 => ?_) (fun c_71 => ?_)
              · skip
                have c_71 := (xn_neT 1 0 c_71 (by omega) (by omega))
                refine x_aload_n C dX7_signing_76 rfl ?_
                refine x_callV (mc' := 0) (ms' := 0) C dX7_signing_77 (c_X7_changes hl hM u hU hu8 sc hsc) mf_X7_changes q3995 q3997 qs104 (Or.inl hM.1) rfl rfl rfl (Nat.le_of_ble_eq_true rfl) (by decide) rfl rfl (fun r h hP => ?_) (fun _ _ _ hX => False.elim hX)
                obtain ⟨rfl, hM⟩ := hP
                obtain ⟨F1, eF1, hM⟩ := MW.nameF hM
                obtain ⟨B2, eB2, hM⟩ := MW.nameB hM
                refine x_aload_n C dX7_signing_80 rfl ?_
                refine x_iload_n C dX7_signing_81 rfl ?_
                refine x_iconst C (nI 2) dX7_signing_82 rfl ?_
                refine x_iload_n C dX7_signing_83 rfl ?_
                refine x_callV (mc' := 0) (ms' := 0) C dX7_signing_84 (c_X7_putC hl hM c 2 (nI s) (by omega)) mf_X7_putC q3784 q3786 qs85 (Or.inl hM.1) rfl rfl rfl (Nat.le_of_ble_eq_true rfl) (by decide) rfl rfl (fun r h hP => ?_) (fun _ _ _ hX => False.elim hX)
                obtain ⟨rfl, hM⟩ := hP
                obtain ⟨n3, en3, hM⟩ := MW.nameN hM
                have hI_n3 : Ginv n3 S Gn Cn T := by rw [en3]; exact hI.upC hc 2 (by decide) (lt_nI hs (by omega))
                refine x_aload_n C dX7_signing_87 rfl ?_
                refine x_iload_n C dX7_signing_88 rfl ?_
                refine x_iconst C (nI 3) dX7_signing_89 rfl ?_
                refine x_iload_n C dX7_signing_90 rfl ?_
                refine x_callV (mc' := 0) (ms' := 0) C dX7_signing_91 (c_X7_putC hl hM c 3 (nI g) (by omega)) mf_X7_putC q3784 q3786 qs85 (Or.inl hM.1) rfl rfl rfl (Nat.le_of_ble_eq_true rfl) (by decide) rfl rfl (fun r h hP => ?_) (fun _ _ _ hX => False.elim hX)
                obtain ⟨rfl, hM⟩ := hP
                obtain ⟨n4, en4, hM⟩ := MW.nameN hM
                have hI_n4 : Ginv n4 S Gn Cn T := by rw [en4]; exact hI_n3.upC hc 3 (by decide) (lt_nI hg (by omega))
                refine x_aload_n C dX7_signing_94 rfl ?_
                refine x_iload_n C dX7_signing_95 rfl ?_
                refine x_iconst C (nI 4) dX7_signing_96 rfl ?_
                refine x_iload C dX7_signing_97 rfl ?_
                refine x_callV (mc' := 0) (ms' := 0) C dX7_signing_99 (c_X7_putC hl hM c 4 (nI x) (by omega)) mf_X7_putC q3784 q3786 qs85 (Or.inl hM.1) rfl rfl rfl (Nat.le_of_ble_eq_true rfl) (by decide) rfl rfl (fun r h hP => ?_) (fun _ _ _ hX => False.elim hX)
                obtain ⟨rfl, hM⟩ := hP
                obtain ⟨n5, en5, hM⟩ := MW.nameN hM
                have hI_n5 : Ginv n5 S Gn Cn T := by rw [en5]; exact hI_n4.upC hc 4 (by decide) (lt_nI (by omega) (by decide))
                refine x_aload_n C dX7_signing_102 rfl ?_
                refine x_iload_n C dX7_signing_103 rfl ?_
                refine x_iload_n C dX7_signing_104 rfl ?_
                refine x_iload_n C dX7_signing_105 rfl ?_
                refine x_callV (mc' := 0) (ms' := 0) C dX7_signing_106 (c_X7_hours hl hM hI_n5 c s g (by omega) (by omega) (by omega)) mf_X7_hours q3999 q4001 qs105 (Or.inl hM.1) rfl rfl rfl (Nat.le_of_ble_eq_true rfl) (by decide) rfl rfl (fun r h hP => ?_) (fun _ _ _ hX => False.elim hX)
                obtain ⟨rfl, hM⟩ := hP
                exact x_iret B0 dX7_signing_109 rfl (by have q_ := en5.symm; subst q_; have q_ := en4.symm; subst q_; have q_ := en3.symm; subst q_; have q_ := eB2.symm; subst q_; have q_ := eF1.symm; subst q_; exact ⟨rfl, hM⟩)
              · exact absurd c_71 (by decide)
theorem c_X7_signing_b {G : xG} {l : Launch} (hl : l.stackTraces = false) {m : Nat} {A : Nat → Nat} {F n : Nat → Int32} {B : Nat → Nat → Int32} {h0 h : xAH} (hM : MW m A F n B h0 h) {S Gn Cn T : Nat} (hI : Ginv n S Gn Cn T) (h7 : F 7 = 0) (c s g : Nat) (hc : c < Cn) (hs : s < S) (hg : g < Gn) (x : Nat) (h1 : 1 ≤ x) (h30 : x ≤ 30) (hb : 0 < n (142 + 5 * c + 4)) : xM G l yX7_signing cX7_signing 5 (Option.some Jvm.ClassFile.FieldType.int) [] 3 0 0 [.ref m, .int (nI c), .int (nI s), .int (nI g), .int (nI x)] h (fun r h2 => r = some (.int (nI 0)) ∧ MW m A (va_up F 7 (nI 3)) n B h0 h2) xNo := by
  refine xcode_start (by decide) (Nat.le_of_ble_eq_true rfl) hl ?_
  intro E hE B0
  subst hE
  have C := B0.1
  have hS8 := hI.S8; have hG6 := hI.G6; have hC6 := hI.C6; have hT := hI.T0
  show xW G E 5 0 0 h 0 [(0, .ref m), (1, .int (nI c)), (2, .int (nI s)), (3, .int (nI g)), (4, .int (nI x))] []
  refine x_aload_n C dX7_signing_0 rfl ?_
  refine x_aload_n C dX7_signing_1 rfl ?_
  refine x_iload_n C dX7_signing_2 rfl ?_
  refine x_callV (mc' := 0) (ms' := 0) C dX7_signing_3 (c_X7_isCart hl hM hI (nI c)) mf_X7_isCart q3975 q3977 qs99 (Or.inl hM.1) rfl rfl rfl (Nat.le_of_ble_eq_true rfl) (by decide) rfl rfl (fun r h hP => ?_) (fun _ _ _ hX => False.elim hX)
  obtain ⟨rfl, hM⟩ := hP
  refine x_toi (nI 1) (bI_t (isIn_nI hc (by omega))) ?_
  refine x_if_eq C 29 dX7_signing_6 (by decide) (fun c_6 => ?_) (fun c_6 => ?_)
  · exact absurd c_6 (by decide)
  · skip
    have c_6 := (xn_eqF 1 0 c_6 (by omega) (by omega))
    refine x_aload_n C dX7_signing_9 rfl ?_
    refine x_iload_n C dX7_signing_10 rfl ?_
    refine x_callV (mc' := 0) (ms' := 0) C dX7_signing_11 (c_X7_isStreet hl hM hI (nI s)) mf_X7_isStreet q3979 q3981 qs100 (Or.inl hM.1) rfl rfl rfl (Nat.le_of_ble_eq_true rfl) (by decide) rfl rfl (fun r h hP => ?_) (fun _ _ _ hX => False.elim hX)
    obtain ⟨rfl, hM⟩ := hP
    refine x_toi (nI 1) (bI_t (isIn_nI hs (by omega))) ?_
    refine x_if_eq C 29 dX7_signing_14 (by decide) (fun c_14 => ?_) (fun c_14 => ?_)
    · exact absurd c_14 (by decide)
    · skip
      have c_14 := (xn_eqF 1 0 c_14 (by omega) (by omega))
      refine x_aload_n C dX7_signing_17 rfl ?_
      refine x_iload_n C dX7_signing_18 rfl ?_
      refine x_callV (mc' := 0) (ms' := 0) C dX7_signing_19 (c_X7_isGarden hl hM hI (nI g)) mf_X7_isGarden q3983 q3985 qs101 (Or.inl hM.1) rfl rfl rfl (Nat.le_of_ble_eq_true rfl) (by decide) rfl rfl (fun r h hP => ?_) (fun _ _ _ hX => False.elim hX)
      obtain ⟨rfl, hM⟩ := hP
      refine x_toi (nI 1) (bI_t (isIn_nI hg (by omega))) ?_
      refine x_if_eq C 29 dX7_signing_22 (by decide) (fun c_22 => ?_) (fun c_22 => ?_)
      · exact absurd c_22 (by decide)
      · skip
        have c_22 := (xn_eqF 1 0 c_22 (by omega) (by omega))
        refine x_iconst C (nI 1) dX7_signing_25 rfl ?_
        refine x_goto C 30 dX7_signing_26 (by decide) ?_
        refine x_iconst C (nI 1) dX7_signing_30 rfl ?_
        refine x_callV (mc' := 0) (ms' := 0) C dX7_signing_31 (c_X7_right_t hl hM (nI 1) h7) mf_X7_right q3901 q3903 qs87 (Or.inl hM.1) rfl rfl rfl (Nat.le_of_ble_eq_true rfl) (by decide) rfl rfl (fun r h hP => ?_) (fun _ _ _ hX => False.elim hX)
        obtain ⟨rfl, hM⟩ := hP
        refine x_if_eq C 74 dX7_signing_34 (by decide) (fun c_34 => ?_) (fun c_34 => ?_)
        · exact absurd c_34 (by decide)
        · skip
          have c_34 := (xn_eqF 1 0 c_34 (by omega) (by omega))
          refine x_aload_n C dX7_signing_37 rfl ?_
          refine x_iload C dX7_signing_38 rfl ?_
          refine x_iconst C (nI 1) dX7_signing_40 rfl ?_
          refine x_bipush C (nI 30) dX7_signing_41 rfl ?_
          refine x_callS (mc' := 0) (ms' := 0) C dX7_signing_43 (c_X7_in hl hM (nI x) (nI 1) (nI 30)) mf_X7_in q3696 q3697 rfl rfl (Nat.le_of_ble_eq_true rfl) (by decide) rfl rfl (fun r h hP => ?_) (fun _ _ _ hX => False.elim hX)
          obtain ⟨rfl, hM⟩ := hP
          refine x_toi (nI 1) (bI_t ⟨nI_le h1 (by omega), nI_le h30 (by decide)⟩) ?_
          refine x_iconst C (nI 2) dX7_signing_46 rfl ?_
          refine x_callV (mc' := 0) (ms' := 0) C dX7_signing_47 (c_X7_right_t hl hM (nI 2) h7) mf_X7_right q3901 q3903 qs87 (Or.inl hM.1) rfl rfl rfl (Nat.le_of_ble_eq_true rfl) (by decide) rfl rfl (fun r h hP => ?_) (fun _ _ _ hX => False.elim hX)
          obtain ⟨rfl, hM⟩ := hP
          refine x_if_eq C 74 dX7_signing_50 (by decide) (fun c_50 => ?_) (fun c_50 => ?_)
          · exact absurd c_50 (by decide)
          · skip
            have c_50 := (xn_eqF 1 0 c_50 (by omega) (by omega))
            refine x_aload_n C dX7_signing_53 rfl ?_
            refine x_aload_n C dX7_signing_54 rfl ?_
            refine x_iload_n C dX7_signing_55 rfl ?_
            refine x_callV (mc' := 0) (ms' := 0) C dX7_signing_56 (c_X7_isBound hl hM c (by omega)) mf_X7_isBound q3987 q3989 qs102 (Or.inl hM.1) rfl rfl rfl (Nat.le_of_ble_eq_true rfl) (by decide) rfl rfl (fun r h hP => ?_) (fun _ _ _ hX => False.elim hX)
            obtain ⟨rfl, hM⟩ := hP
            refine x_toi (nI 1) (bI_t hb) ?_
            refine x_if_ne C 66 dX7_signing_59 (by decide) (fun c_59 => ?_) (fun c_59 => ?_)
            · skip
              have c_59 := (xn_neT 1 0 c_59 (by omega) (by omega))
              refine x_iconst C (nI 0) dX7_signing_66 rfl ?_
              refine x_iconst C (nI 3) dX7_signing_67 rfl ?_
              refine x_callV (mc' := 0) (ms' := 0) C dX7_signing_68 (c_X7_right_f hl hM (nI 3) h7 (by decide)) mf_X7_right q3901 q3903 qs87 (Or.inl hM.1) rfl rfl rfl (Nat.le_of_ble_eq_true rfl) (by decide) rfl rfl (fun r h hP => ?_) (fun _ _ _ hX => False.elim hX)
              obtain ⟨rfl, hM⟩ := hP
              obtain ⟨F1, eF1, hM⟩ := MW.nameF hM
              refine x_if_ne C 76 dX7_signing_71 (by decide) (fun c_71 => ?_) (fun c_71 => ?_)
              · exact absurd c_71 (by decide)
              · skip
                have c_71 := (xn_neF 0 0 c_71 (by omega) (by omega))
                refine x_iconst C (nI 0) dX7_signing_74 rfl ?_
                exact x_iret B0 dX7_signing_75 rfl (by have q_ := eF1.symm; subst q_; exact ⟨rfl, hM⟩)
            · exact absurd c_59 (by decide)
theorem c_X7_signing_n {G : xG} {l : Launch} (hl : l.stackTraces = false) {m : Nat} {A : Nat → Nat} {F n : Nat → Int32} {B : Nat → Nat → Int32} {h0 h : xAH} (hM : MW m A F n B h0 h) {S Gn Cn T : Nat} (hI : Ginv n S Gn Cn T) (h7 : F 7 = 0) (c s g : Nat) (hc : c < Cn) (hs : s < S) (hg : g < Gn) (x : Int32) (hx : ¬ (nI 1 ≤ x ∧ x ≤ nI 30)) : xM G l yX7_signing cX7_signing 5 (Option.some Jvm.ClassFile.FieldType.int) [] 3 0 0 [.ref m, .int (nI c), .int (nI s), .int (nI g), .int x] h (fun r h2 => r = some (.int (nI 0)) ∧ MW m A (va_up F 7 (nI 2)) n B h0 h2) xNo := by
  refine xcode_start (by decide) (Nat.le_of_ble_eq_true rfl) hl ?_
  intro E hE B0
  subst hE
  have C := B0.1
  have hS8 := hI.S8; have hG6 := hI.G6; have hC6 := hI.C6; have hT := hI.T0
  show xW G E 5 0 0 h 0 [(0, .ref m), (1, .int (nI c)), (2, .int (nI s)), (3, .int (nI g)), (4, .int x)] []
  refine x_aload_n C dX7_signing_0 rfl ?_
  refine x_aload_n C dX7_signing_1 rfl ?_
  refine x_iload_n C dX7_signing_2 rfl ?_
  refine x_callV (mc' := 0) (ms' := 0) C dX7_signing_3 (c_X7_isCart hl hM hI (nI c)) mf_X7_isCart q3975 q3977 qs99 (Or.inl hM.1) rfl rfl rfl (Nat.le_of_ble_eq_true rfl) (by decide) rfl rfl (fun r h hP => ?_) (fun _ _ _ hX => False.elim hX)
  obtain ⟨rfl, hM⟩ := hP
  refine x_toi (nI 1) (bI_t (isIn_nI hc (by omega))) ?_
  refine x_if_eq C 29 dX7_signing_6 (by decide) (fun c_6 => ?_) (fun c_6 => ?_)
  · exact absurd c_6 (by decide)
  · skip
    have c_6 := (xn_eqF 1 0 c_6 (by omega) (by omega))
    refine x_aload_n C dX7_signing_9 rfl ?_
    refine x_iload_n C dX7_signing_10 rfl ?_
    refine x_callV (mc' := 0) (ms' := 0) C dX7_signing_11 (c_X7_isStreet hl hM hI (nI s)) mf_X7_isStreet q3979 q3981 qs100 (Or.inl hM.1) rfl rfl rfl (Nat.le_of_ble_eq_true rfl) (by decide) rfl rfl (fun r h hP => ?_) (fun _ _ _ hX => False.elim hX)
    obtain ⟨rfl, hM⟩ := hP
    refine x_toi (nI 1) (bI_t (isIn_nI hs (by omega))) ?_
    refine x_if_eq C 29 dX7_signing_14 (by decide) (fun c_14 => ?_) (fun c_14 => ?_)
    · exact absurd c_14 (by decide)
    · skip
      have c_14 := (xn_eqF 1 0 c_14 (by omega) (by omega))
      refine x_aload_n C dX7_signing_17 rfl ?_
      refine x_iload_n C dX7_signing_18 rfl ?_
      refine x_callV (mc' := 0) (ms' := 0) C dX7_signing_19 (c_X7_isGarden hl hM hI (nI g)) mf_X7_isGarden q3983 q3985 qs101 (Or.inl hM.1) rfl rfl rfl (Nat.le_of_ble_eq_true rfl) (by decide) rfl rfl (fun r h hP => ?_) (fun _ _ _ hX => False.elim hX)
      obtain ⟨rfl, hM⟩ := hP
      refine x_toi (nI 1) (bI_t (isIn_nI hg (by omega))) ?_
      refine x_if_eq C 29 dX7_signing_22 (by decide) (fun c_22 => ?_) (fun c_22 => ?_)
      · exact absurd c_22 (by decide)
      · skip
        have c_22 := (xn_eqF 1 0 c_22 (by omega) (by omega))
        refine x_iconst C (nI 1) dX7_signing_25 rfl ?_
        refine x_goto C 30 dX7_signing_26 (by decide) ?_
        refine x_iconst C (nI 1) dX7_signing_30 rfl ?_
        refine x_callV (mc' := 0) (ms' := 0) C dX7_signing_31 (c_X7_right_t hl hM (nI 1) h7) mf_X7_right q3901 q3903 qs87 (Or.inl hM.1) rfl rfl rfl (Nat.le_of_ble_eq_true rfl) (by decide) rfl rfl (fun r h hP => ?_) (fun _ _ _ hX => False.elim hX)
        obtain ⟨rfl, hM⟩ := hP
        refine x_if_eq C 74 dX7_signing_34 (by decide) (fun c_34 => ?_) (fun c_34 => ?_)
        · exact absurd c_34 (by decide)
        · skip
          have c_34 := (xn_eqF 1 0 c_34 (by omega) (by omega))
          refine x_aload_n C dX7_signing_37 rfl ?_
          refine x_iload C dX7_signing_38 rfl ?_
          refine x_iconst C (nI 1) dX7_signing_40 rfl ?_
          refine x_bipush C (nI 30) dX7_signing_41 rfl ?_
          refine x_callS (mc' := 0) (ms' := 0) C dX7_signing_43 (c_X7_in hl hM x (nI 1) (nI 30)) mf_X7_in q3696 q3697 rfl rfl (Nat.le_of_ble_eq_true rfl) (by decide) rfl rfl (fun r h hP => ?_) (fun _ _ _ hX => False.elim hX)
          obtain ⟨rfl, hM⟩ := hP
          refine x_toi (nI 0) (bI_f hx) ?_
          refine x_iconst C (nI 2) dX7_signing_46 rfl ?_
          refine x_callV (mc' := 0) (ms' := 0) C dX7_signing_47 (c_X7_right_f hl hM (nI 2) h7 (by decide)) mf_X7_right q3901 q3903 qs87 (Or.inl hM.1) rfl rfl rfl (Nat.le_of_ble_eq_true rfl) (by decide) rfl rfl (fun r h hP => ?_) (fun _ _ _ hX => False.elim hX)
          obtain ⟨rfl, hM⟩ := hP
          obtain ⟨F1, eF1, hM⟩ := MW.nameF hM
          refine x_if_eq C 74 dX7_signing_50 (by decide) (fun c_50 => ?_) (fun c_50 => ?_)
          · skip
            have c_50 := (xn_eqT 0 0 c_50 (by omega) (by omega))
            refine x_iconst C (nI 0) dX7_signing_74 rfl ?_
            exact x_iret B0 dX7_signing_75 rfl (by have q_ := eF1.symm; subst q_; exact ⟨rfl, hM⟩)
          · exact absurd c_50 (by decide)
theorem c_X7_signing_f {G : xG} {l : Launch} (hl : l.stackTraces = false) {m : Nat} {A : Nat → Nat} {F n : Nat → Int32} {B : Nat → Nat → Int32} {h0 h : xAH} (hM : MW m A F n B h0 h) {S Gn Cn T : Nat} (hI : Ginv n S Gn Cn T) (h7 : F 7 = 0) (c s g x : Int32) (hx : ¬ (isIn c Cn ∧ isIn s S ∧ isIn g Gn)) : xM G l yX7_signing cX7_signing 5 (Option.some Jvm.ClassFile.FieldType.int) [] 3 0 0 [.ref m, .int c, .int s, .int g, .int x] h (fun r h2 => r = some (.int (nI 0)) ∧ MW m A (va_up F 7 (nI 1)) n B h0 h2) xNo := by
  refine xcode_start (by decide) (Nat.le_of_ble_eq_true rfl) hl ?_
  intro E hE B0
  subst hE
  have C := B0.1
  have hS8 := hI.S8; have hG6 := hI.G6; have hC6 := hI.C6; have hT := hI.T0
  show xW G E 5 0 0 h 0 [(0, .ref m), (1, .int c), (2, .int s), (3, .int g), (4, .int x)] []
  refine x_aload_n C dX7_signing_0 rfl ?_
  refine x_aload_n C dX7_signing_1 rfl ?_
  refine x_iload_n C dX7_signing_2 rfl ?_
  refine x_callV (mc' := 0) (ms' := 0) C dX7_signing_3 (c_X7_isCart hl hM hI c) mf_X7_isCart q3975 q3977 qs99 (Or.inl hM.1) rfl rfl rfl (Nat.le_of_ble_eq_true rfl) (by decide) rfl rfl (fun r h hP => ?_) (fun _ _ _ hX => False.elim hX)
  obtain ⟨rfl, hM⟩ := hP
  by_cases hb_3 : isIn c Cn
  · refine x_toi (nI 1) (bI_t hb_3) ?_
    refine x_if_eq C 29 dX7_signing_6 (by decide) (fun c_6 => ?_) (fun c_6 => ?_)
    · exact absurd c_6 (by decide)
    · skip
      have c_6 := (xn_eqF 1 0 c_6 (by omega) (by omega))
      refine x_aload_n C dX7_signing_9 rfl ?_
      refine x_iload_n C dX7_signing_10 rfl ?_
      refine x_callV (mc' := 0) (ms' := 0) C dX7_signing_11 (c_X7_isStreet hl hM hI s) mf_X7_isStreet q3979 q3981 qs100 (Or.inl hM.1) rfl rfl rfl (Nat.le_of_ble_eq_true rfl) (by decide) rfl rfl (fun r h hP => ?_) (fun _ _ _ hX => False.elim hX)
      obtain ⟨rfl, hM⟩ := hP
      by_cases hb_11 : isIn s S
      · refine x_toi (nI 1) (bI_t hb_11) ?_
        refine x_if_eq C 29 dX7_signing_14 (by decide) (fun c_14 => ?_) (fun c_14 => ?_)
        · exact absurd c_14 (by decide)
        · skip
          have c_14 := (xn_eqF 1 0 c_14 (by omega) (by omega))
          refine x_aload_n C dX7_signing_17 rfl ?_
          refine x_iload_n C dX7_signing_18 rfl ?_
          refine x_callV (mc' := 0) (ms' := 0) C dX7_signing_19 (c_X7_isGarden hl hM hI g) mf_X7_isGarden q3983 q3985 qs101 (Or.inl hM.1) rfl rfl rfl (Nat.le_of_ble_eq_true rfl) (by decide) rfl rfl (fun r h hP => ?_) (fun _ _ _ hX => False.elim hX)
          obtain ⟨rfl, hM⟩ := hP
          by_cases hb_19 : isIn g Gn
          · refine x_toi (nI 1) (bI_t hb_19) ?_
            refine x_if_eq C 29 dX7_signing_22 (by decide) (fun c_22 => ?_) (fun c_22 => ?_)
            · exact absurd c_22 (by decide)
            · skip
              have c_22 := (xn_eqF 1 0 c_22 (by omega) (by omega))
              exact absurd ⟨hb_3, hb_11, hb_19⟩ hx
          · refine x_toi (nI 0) (bI_f hb_19) ?_
            refine x_if_eq C 29 dX7_signing_22 (by decide) (fun c_22 => ?_) (fun c_22 => ?_)
            · skip
              have c_22 := (xn_eqT 0 0 c_22 (by omega) (by omega))
              refine x_iconst C (nI 0) dX7_signing_29 rfl ?_
              refine x_iconst C (nI 1) dX7_signing_30 rfl ?_
              refine x_callV (mc' := 0) (ms' := 0) C dX7_signing_31 (c_X7_right_f hl hM (nI 1) h7 (by decide)) mf_X7_right q3901 q3903 qs87 (Or.inl hM.1) rfl rfl rfl (Nat.le_of_ble_eq_true rfl) (by decide) rfl rfl (fun r h hP => ?_) (fun _ _ _ hX => False.elim hX)
              obtain ⟨rfl, hM⟩ := hP
              obtain ⟨F1, eF1, hM⟩ := MW.nameF hM
              refine x_if_eq C 74 dX7_signing_34 (by decide) (fun c_34 => ?_) (fun c_34 => ?_)
              · skip
                have c_34 := (xn_eqT 0 0 c_34 (by omega) (by omega))
                refine x_iconst C (nI 0) dX7_signing_74 rfl ?_
                exact x_iret B0 dX7_signing_75 rfl (by have q_ := eF1.symm; subst q_; exact ⟨rfl, hM⟩)
              · exact absurd c_34 (by decide)
            · exact absurd c_22 (by decide)
      · refine x_toi (nI 0) (bI_f hb_11) ?_
        refine x_if_eq C 29 dX7_signing_14 (by decide) (fun c_14 => ?_) (fun c_14 => ?_)
        · skip
          have c_14 := (xn_eqT 0 0 c_14 (by omega) (by omega))
          refine x_iconst C (nI 0) dX7_signing_29 rfl ?_
          refine x_iconst C (nI 1) dX7_signing_30 rfl ?_
          refine x_callV (mc' := 0) (ms' := 0) C dX7_signing_31 (c_X7_right_f hl hM (nI 1) h7 (by decide)) mf_X7_right q3901 q3903 qs87 (Or.inl hM.1) rfl rfl rfl (Nat.le_of_ble_eq_true rfl) (by decide) rfl rfl (fun r h hP => ?_) (fun _ _ _ hX => False.elim hX)
          obtain ⟨rfl, hM⟩ := hP
          obtain ⟨F2, eF2, hM⟩ := MW.nameF hM
          refine x_if_eq C 74 dX7_signing_34 (by decide) (fun c_34 => ?_) (fun c_34 => ?_)
          · skip
            have c_34 := (xn_eqT 0 0 c_34 (by omega) (by omega))
            refine x_iconst C (nI 0) dX7_signing_74 rfl ?_
            exact x_iret B0 dX7_signing_75 rfl (by have q_ := eF2.symm; subst q_; exact ⟨rfl, hM⟩)
          · exact absurd c_34 (by decide)
        · exact absurd c_14 (by decide)
  · refine x_toi (nI 0) (bI_f hb_3) ?_
    refine x_if_eq C 29 dX7_signing_6 (by decide) (fun c_6 => ?_) (fun c_6 => ?_)
    · skip
      have c_6 := (xn_eqT 0 0 c_6 (by omega) (by omega))
      refine x_iconst C (nI 0) dX7_signing_29 rfl ?_
      refine x_iconst C (nI 1) dX7_signing_30 rfl ?_
      refine x_callV (mc' := 0) (ms' := 0) C dX7_signing_31 (c_X7_right_f hl hM (nI 1) h7 (by decide)) mf_X7_right q3901 q3903 qs87 (Or.inl hM.1) rfl rfl rfl (Nat.le_of_ble_eq_true rfl) (by decide) rfl rfl (fun r h hP => ?_) (fun _ _ _ hX => False.elim hX)
      obtain ⟨rfl, hM⟩ := hP
      obtain ⟨F3, eF3, hM⟩ := MW.nameF hM
      refine x_if_eq C 74 dX7_signing_34 (by decide) (fun c_34 => ?_) (fun c_34 => ?_)
      · skip
        have c_34 := (xn_eqT 0 0 c_34 (by omega) (by omega))
        refine x_iconst C (nI 0) dX7_signing_74 rfl ?_
        exact x_iret B0 dX7_signing_75 rfl (by have q_ := eF3.symm; subst q_; exact ⟨rfl, hM⟩)
      · exact absurd c_34 (by decide)
    · exact absurd c_6 (by decide)
