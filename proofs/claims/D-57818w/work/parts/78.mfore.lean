/-! ===== the reference: forecasts ===== -/
theorem c_X7_hoursNeeded_f {G : xG} {l : Launch} (hl : l.stackTraces = false) {m : Nat} {A : Nat → Nat} {F n : Nat → Int32} {B : Nat → Nat → Int32} {h0 h : xAH} (hM : MW m A F n B h0 h) {S Gn Cn T : Nat} (hI : Ginv n S Gn Cn T) (c s g : Int32) (hx : ¬ (isIn c Cn ∧ isIn s S ∧ isIn g Gn)) : xM G l yX7_hoursNeeded cX7_hoursNeeded 4 (Option.some Jvm.ClassFile.FieldType.int) [] 3 0 0 [.ref m, .int c, .int s, .int g] h (fun r h2 => r = some (.int (nI 0)) ∧ MW m A (va_up (va_up F 7 (nI 0)) 7 (nI 1)) n B h0 h2) xNo := by
  refine xcode_start (by decide) (Nat.le_of_ble_eq_true rfl) hl ?_
  intro E hE B0
  subst hE
  have C := B0.1
  have hS8 := hI.S8; have hG6 := hI.G6; have hC6 := hI.C6; have hT := hI.T0
  show xW G E 4 0 0 h 0 [(0, .ref m), (1, .int c), (2, .int s), (3, .int g)] []
  refine x_aload_n C dX7_hoursNeeded_0 rfl ?_
  refine x_iconst C (nI 0) dX7_hoursNeeded_1 rfl ?_
  refine m_putI C dX7_hoursNeeded_2 fl_X7_85_6 hM rfl rfl ⟨rfl, rfl⟩ (fun h hM => ?_)
  obtain ⟨F1, eF1, hM⟩ := MW.nameF hM
  refine x_aload_n C dX7_hoursNeeded_5 rfl ?_
  refine x_aload_n C dX7_hoursNeeded_6 rfl ?_
  refine x_iload_n C dX7_hoursNeeded_7 rfl ?_
  refine x_callV (mc' := 0) (ms' := 0) C dX7_hoursNeeded_8 (c_X7_isCart hl hM hI c) mf_X7_isCart q3975 q3977 qs99 (Or.inl hM.1) rfl rfl rfl (Nat.le_of_ble_eq_true rfl) (by decide) rfl rfl (fun r h hP => ?_) (fun _ _ _ hX => False.elim hX)
  obtain ⟨rfl, hM⟩ := hP
  by_cases hb_8 : isIn c Cn
  · refine x_toi (nI 1) (bI_t hb_8) ?_
    refine x_if_eq C 34 dX7_hoursNeeded_11 (by decide) (fun c_11 => ?_) (fun c_11 => ?_)
    · exact absurd c_11 (by decide)
    · skip
      have c_11 := (xn_eqF 1 0 c_11 (by omega) (by omega))
      refine x_aload_n C dX7_hoursNeeded_14 rfl ?_
      refine x_iload_n C dX7_hoursNeeded_15 rfl ?_
      refine x_callV (mc' := 0) (ms' := 0) C dX7_hoursNeeded_16 (c_X7_isStreet hl hM hI s) mf_X7_isStreet q3979 q3981 qs100 (Or.inl hM.1) rfl rfl rfl (Nat.le_of_ble_eq_true rfl) (by decide) rfl rfl (fun r h hP => ?_) (fun _ _ _ hX => False.elim hX)
      obtain ⟨rfl, hM⟩ := hP
      by_cases hb_16 : isIn s S
      · refine x_toi (nI 1) (bI_t hb_16) ?_
        refine x_if_eq C 34 dX7_hoursNeeded_19 (by decide) (fun c_19 => ?_) (fun c_19 => ?_)
        · exact absurd c_19 (by decide)
        · skip
          have c_19 := (xn_eqF 1 0 c_19 (by omega) (by omega))
          refine x_aload_n C dX7_hoursNeeded_22 rfl ?_
          refine x_iload_n C dX7_hoursNeeded_23 rfl ?_
          refine x_callV (mc' := 0) (ms' := 0) C dX7_hoursNeeded_24 (c_X7_isGarden hl hM hI g) mf_X7_isGarden q3983 q3985 qs101 (Or.inl hM.1) rfl rfl rfl (Nat.le_of_ble_eq_true rfl) (by decide) rfl rfl (fun r h hP => ?_) (fun _ _ _ hX => False.elim hX)
          obtain ⟨rfl, hM⟩ := hP
          by_cases hb_24 : isIn g Gn
          · refine x_toi (nI 1) (bI_t hb_24) ?_
            refine x_if_eq C 34 dX7_hoursNeeded_27 (by decide) (fun c_27 => ?_) (fun c_27 => ?_)
            · exact absurd c_27 (by decide)
            · skip
              have c_27 := (xn_eqF 1 0 c_27 (by omega) (by omega))
              exact absurd ⟨hb_8, hb_16, hb_24⟩ hx
          · refine x_toi (nI 0) (bI_f hb_24) ?_
            refine x_if_eq C 34 dX7_hoursNeeded_27 (by decide) (fun c_27 => ?_) (fun c_27 => ?_)
            · skip
              have c_27 := (xn_eqT 0 0 c_27 (by omega) (by omega))
              refine x_iconst C (nI 0) dX7_hoursNeeded_34 rfl ?_
              refine x_iconst C (nI 1) dX7_hoursNeeded_35 rfl ?_
              refine x_callV (mc' := 0) (ms' := 0) C dX7_hoursNeeded_36 (c_X7_right_f hl hM (nI 1) (by have q_ := eF1.symm; subst q_; rfl) (by decide)) mf_X7_right q3901 q3903 qs87 (Or.inl hM.1) rfl rfl rfl (Nat.le_of_ble_eq_true rfl) (by decide) rfl rfl (fun r h hP => ?_) (fun _ _ _ hX => False.elim hX)
              obtain ⟨rfl, hM⟩ := hP
              obtain ⟨F2, eF2, hM⟩ := MW.nameF hM
              refine x_if_eq C 52 dX7_hoursNeeded_39 (by decide) (fun c_39 => ?_) (fun c_39 => ?_)
              · skip
                have c_39 := (xn_eqT 0 0 c_39 (by omega) (by omega))
                refine x_iconst C (nI 0) dX7_hoursNeeded_52 rfl ?_
                exact x_iret B0 dX7_hoursNeeded_53 rfl (by have q_ := eF2.symm; subst q_; have q_ := eF1.symm; subst q_; exact ⟨rfl, hM⟩)
              · exact absurd c_39 (by decide)
            · exact absurd c_27 (by decide)
      · refine x_toi (nI 0) (bI_f hb_16) ?_
        refine x_if_eq C 34 dX7_hoursNeeded_19 (by decide) (fun c_19 => ?_) (fun c_19 => ?_)
        · skip
          have c_19 := (xn_eqT 0 0 c_19 (by omega) (by omega))
          refine x_iconst C (nI 0) dX7_hoursNeeded_34 rfl ?_
          refine x_iconst C (nI 1) dX7_hoursNeeded_35 rfl ?_
          refine x_callV (mc' := 0) (ms' := 0) C dX7_hoursNeeded_36 (c_X7_right_f hl hM (nI 1) (by have q_ := eF1.symm; subst q_; rfl) (by decide)) mf_X7_right q3901 q3903 qs87 (Or.inl hM.1) rfl rfl rfl (Nat.le_of_ble_eq_true rfl) (by decide) rfl rfl (fun r h hP => ?_) (fun _ _ _ hX => False.elim hX)
          obtain ⟨rfl, hM⟩ := hP
          obtain ⟨F3, eF3, hM⟩ := MW.nameF hM
          refine x_if_eq C 52 dX7_hoursNeeded_39 (by decide) (fun c_39 => ?_) (fun c_39 => ?_)
          · skip
            have c_39 := (xn_eqT 0 0 c_39 (by omega) (by omega))
            refine x_iconst C (nI 0) dX7_hoursNeeded_52 rfl ?_
            exact x_iret B0 dX7_hoursNeeded_53 rfl (by have q_ := eF3.symm; subst q_; have q_ := eF1.symm; subst q_; exact ⟨rfl, hM⟩)
          · exact absurd c_39 (by decide)
        · exact absurd c_19 (by decide)
  · refine x_toi (nI 0) (bI_f hb_8) ?_
    refine x_if_eq C 34 dX7_hoursNeeded_11 (by decide) (fun c_11 => ?_) (fun c_11 => ?_)
    · skip
      have c_11 := (xn_eqT 0 0 c_11 (by omega) (by omega))
      refine x_iconst C (nI 0) dX7_hoursNeeded_34 rfl ?_
      refine x_iconst C (nI 1) dX7_hoursNeeded_35 rfl ?_
      refine x_callV (mc' := 0) (ms' := 0) C dX7_hoursNeeded_36 (c_X7_right_f hl hM (nI 1) (by have q_ := eF1.symm; subst q_; rfl) (by decide)) mf_X7_right q3901 q3903 qs87 (Or.inl hM.1) rfl rfl rfl (Nat.le_of_ble_eq_true rfl) (by decide) rfl rfl (fun r h hP => ?_) (fun _ _ _ hX => False.elim hX)
      obtain ⟨rfl, hM⟩ := hP
      obtain ⟨F4, eF4, hM⟩ := MW.nameF hM
      refine x_if_eq C 52 dX7_hoursNeeded_39 (by decide) (fun c_39 => ?_) (fun c_39 => ?_)
      · skip
        have c_39 := (xn_eqT 0 0 c_39 (by omega) (by omega))
        refine x_iconst C (nI 0) dX7_hoursNeeded_52 rfl ?_
        exact x_iret B0 dX7_hoursNeeded_53 rfl (by have q_ := eF4.symm; subst q_; have q_ := eF1.symm; subst q_; exact ⟨rfl, hM⟩)
      · exact absurd c_39 (by decide)
    · exact absurd c_11 (by decide)
theorem c_X7_hoursNeeded_t {G : xG} {l : Launch} (hl : l.stackTraces = false) {m : Nat} {A : Nat → Nat} {F n : Nat → Int32} {B : Nat → Nat → Int32} {h0 h : xAH} (hM : MW m A F n B h0 h) {S Gn Cn T : Nat} (hI : Ginv n S Gn Cn T) (c s g : Nat) (hc : c < Cn) (hs : s < S) (hg : g < Gn) : xM G l yX7_hoursNeeded cX7_hoursNeeded 4 (Option.some Jvm.ClassFile.FieldType.int) [] 3 0 0 [.ref m, .int (nI c), .int (nI s), .int (nI g)] h (fun r h2 => r = some (.int (sp_hours n c s g)) ∧ MW m A (va_up F 7 (nI 0)) n B h0 h2) xNo := by
  refine xcode_start (by decide) (Nat.le_of_ble_eq_true rfl) hl ?_
  intro E hE B0
  subst hE
  have C := B0.1
  have hS8 := hI.S8; have hG6 := hI.G6; have hC6 := hI.C6; have hT := hI.T0
  show xW G E 4 0 0 h 0 [(0, .ref m), (1, .int (nI c)), (2, .int (nI s)), (3, .int (nI g))] []
  refine x_aload_n C dX7_hoursNeeded_0 rfl ?_
  refine x_iconst C (nI 0) dX7_hoursNeeded_1 rfl ?_
  refine m_putI C dX7_hoursNeeded_2 fl_X7_85_6 hM rfl rfl ⟨rfl, rfl⟩ (fun h hM => ?_)
  obtain ⟨F1, eF1, hM⟩ := MW.nameF hM
  refine x_aload_n C dX7_hoursNeeded_5 rfl ?_
  refine x_aload_n C dX7_hoursNeeded_6 rfl ?_
  refine x_iload_n C dX7_hoursNeeded_7 rfl ?_
  refine x_callV (mc' := 0) (ms' := 0) C dX7_hoursNeeded_8 (c_X7_isCart hl hM hI (nI c)) mf_X7_isCart q3975 q3977 qs99 (Or.inl hM.1) rfl rfl rfl (Nat.le_of_ble_eq_true rfl) (by decide) rfl rfl (fun r h hP => ?_) (fun _ _ _ hX => False.elim hX)
  obtain ⟨rfl, hM⟩ := hP
  refine x_toi (nI 1) (bI_t (isIn_nI hc (by omega))) ?_
  refine x_if_eq C 34 dX7_hoursNeeded_11 (by decide) (fun c_11 => ?_) (fun c_11 => ?_)
  · exact absurd c_11 (by decide)
  · skip
    have c_11 := (xn_eqF 1 0 c_11 (by omega) (by omega))
    refine x_aload_n C dX7_hoursNeeded_14 rfl ?_
    refine x_iload_n C dX7_hoursNeeded_15 rfl ?_
    refine x_callV (mc' := 0) (ms' := 0) C dX7_hoursNeeded_16 (c_X7_isStreet hl hM hI (nI s)) mf_X7_isStreet q3979 q3981 qs100 (Or.inl hM.1) rfl rfl rfl (Nat.le_of_ble_eq_true rfl) (by decide) rfl rfl (fun r h hP => ?_) (fun _ _ _ hX => False.elim hX)
    obtain ⟨rfl, hM⟩ := hP
    refine x_toi (nI 1) (bI_t (isIn_nI hs (by omega))) ?_
    refine x_if_eq C 34 dX7_hoursNeeded_19 (by decide) (fun c_19 => ?_) (fun c_19 => ?_)
    · exact absurd c_19 (by decide)
    · skip
      have c_19 := (xn_eqF 1 0 c_19 (by omega) (by omega))
      refine x_aload_n C dX7_hoursNeeded_22 rfl ?_
      refine x_iload_n C dX7_hoursNeeded_23 rfl ?_
      refine x_callV (mc' := 0) (ms' := 0) C dX7_hoursNeeded_24 (c_X7_isGarden hl hM hI (nI g)) mf_X7_isGarden q3983 q3985 qs101 (Or.inl hM.1) rfl rfl rfl (Nat.le_of_ble_eq_true rfl) (by decide) rfl rfl (fun r h hP => ?_) (fun _ _ _ hX => False.elim hX)
      obtain ⟨rfl, hM⟩ := hP
      refine x_toi (nI 1) (bI_t (isIn_nI hg (by omega))) ?_
      refine x_if_eq C 34 dX7_hoursNeeded_27 (by decide) (fun c_27 => ?_) (fun c_27 => ?_)
      · exact absurd c_27 (by decide)
      · skip
        have c_27 := (xn_eqF 1 0 c_27 (by omega) (by omega))
        refine x_iconst C (nI 1) dX7_hoursNeeded_30 rfl ?_
        refine x_goto C 35 dX7_hoursNeeded_31 (by decide) ?_
        refine x_iconst C (nI 1) dX7_hoursNeeded_35 rfl ?_
        refine x_callV (mc' := 0) (ms' := 0) C dX7_hoursNeeded_36 (c_X7_right_t hl hM (nI 1) (by have q_ := eF1.symm; subst q_; rfl)) mf_X7_right q3901 q3903 qs87 (Or.inl hM.1) rfl rfl rfl (Nat.le_of_ble_eq_true rfl) (by decide) rfl rfl (fun r h hP => ?_) (fun _ _ _ hX => False.elim hX)
        obtain ⟨rfl, hM⟩ := hP
        refine x_if_eq C 52 dX7_hoursNeeded_39 (by decide) (fun c_39 => ?_) (fun c_39 => ?_)
        · exact absurd c_39 (by decide)
        · skip
          have c_39 := (xn_eqF 1 0 c_39 (by omega) (by omega))
          refine x_aload_n C dX7_hoursNeeded_42 rfl ?_
          refine x_iload_n C dX7_hoursNeeded_43 rfl ?_
          refine x_iload_n C dX7_hoursNeeded_44 rfl ?_
          refine x_iload_n C dX7_hoursNeeded_45 rfl ?_
          refine x_callV (mc' := 0) (ms' := 0) C dX7_hoursNeeded_46 (c_X7_hours hl hM hI c s g (by omega) (by omega) (by omega)) mf_X7_hours q3999 q4001 qs105 (Or.inl hM.1) rfl rfl rfl (Nat.le_of_ble_eq_true rfl) (by decide) rfl rfl (fun r h hP => ?_) (fun _ _ _ hX => False.elim hX)
          obtain ⟨rfl, hM⟩ := hP
          refine x_goto C 53 dX7_hoursNeeded_49 (by decide) ?_
          exact x_iret B0 dX7_hoursNeeded_53 rfl (by have q_ := eF1.symm; subst q_; exact ⟨rfl, hM⟩)
