/-! ===== the reference: steps of the reader ===== -/
theorem c_X7_reads0 {G : xG} {l : Launch} (hl : l.stackTraces = false) {m : Nat} {A : Nat → Nat} {F n : Nat → Int32} {B : Nat → Nat → Int32} {h0 h : xAH} (hM : MW m A F n B h0 h) (h0P : Pok0 F) : xM G l yX7_reads cX7_reads 2 (Option.none : Option Jvm.ClassFile.FieldType) [] 2 0 0 [.ref m] h (fun r h2 => r = none ∧ MW m A (sp_reads (B 9) F) n B h0 h2) xNo := c_X7_reads hl hM _ _ _ h0P.1.1 (by have := h0P.1.2; omega) h0P.2.1.1 h0P.2.2 rfl
theorem c_X7_starts {G : xG} {l : Launch} (hl : l.stackTraces = false) {m : Nat} {A : Nat → Nat} {F n : Nat → Int32} {B : Nat → Nat → Int32} {h0 h : xAH} (hM : MW m A F n B h0 h) (hN : lt (F 10) 701) : xM G l yX7_starts cX7_starts 1 (Option.none : Option Jvm.ClassFile.FieldType) [] 3 0 0 [.ref m] h (fun r h2 => r = none ∧ MW m A (sp_starts (B 9) F) n B h0 h2) xNo := by
  refine xcode_start (by decide) (Nat.le_of_ble_eq_true rfl) hl ?_
  intro E hE B0
  subst hE
  have C := B0.1
  show xW G E 1 0 0 h 0 [(0, .ref m)] []
  refine x_aload_n C dX7_starts_0 rfl ?_
  refine x_iconst C (nI 0) dX7_starts_1 rfl ?_
  refine m_putI C dX7_starts_2 fl_X7_183_6 hM rfl rfl ⟨rfl, rfl⟩ (fun h hM => ?_)
  obtain ⟨F1, eF1, hM⟩ := MW.nameF hM
  refine x_aload_n C dX7_starts_5 rfl ?_
  refine x_iconst C (nI 0) dX7_starts_6 rfl ?_
  refine m_putI C dX7_starts_7 fl_X7_198_6 hM rfl rfl ⟨rfl, rfl⟩ (fun h hM => ?_)
  obtain ⟨F2, eF2, hM⟩ := MW.nameF hM
  refine x_aload_n C dX7_starts_10 rfl ?_
  refine x_iconst C (-1) dX7_starts_11 rfl ?_
  refine m_putI C dX7_starts_12 fl_X7_201_6 hM rfl rfl ⟨rfl, rfl⟩ (fun h hM => ?_)
  obtain ⟨F3, eF3, hM⟩ := MW.nameF hM
  refine x_aload_n C dX7_starts_15 rfl ?_
  have h0P : Pok0 F3 := ⟨by subst eF3; subst eF2; subst eF1; exact hN, by subst eF3; subst eF2; subst eF1; exact lt_nI (a := 0) (by decide) (by decide), by subst eF3; subst eF2; subst eF1; exact Nat.zero_le _⟩
  refine x_callV (mc' := 0) (ms' := 0) C dX7_starts_16 (c_X7_reads0 hl hM h0P) mf_X7_reads q3688 q3690 qs63 (Or.inl hM.1) rfl rfl rfl (Nat.le_of_ble_eq_true rfl) (by decide) rfl rfl (fun r h hP => ?_) (fun _ _ _ hX => False.elim hX)
  obtain ⟨rfl, hM⟩ := hP
  obtain ⟨F4, eF4, hM⟩ := MW.nameF hM
  have hP_F4 : Pok F4 := by rw [eF4]; exact Pok0.reads h0P
  exact x_ret B0 dX7_starts_19 rfl (by subst eF4; subst eF3; subst eF2; subst eF1; exact ⟨rfl, hM⟩)
theorem c_X7_must {G : xG} {l : Launch} (hl : l.stackTraces = false) {m : Nat} {A : Nat → Nat} {F n : Nat → Int32} {B : Nat → Nat → Int32} {h0 h : xAH} (hM : MW m A F n B h0 h) (b : Bool) (its : Int32) : xM G l yX7_must cX7_must 3 (Option.some Jvm.ClassFile.FieldType.boolean) [] 1 0 0 [.ref m, .int (bI b), .int its] h (fun r h2 => r = some (.int (bI (decide (sp_must F b its 17 = 0)))) ∧ MW m A (sp_must F b its) n B h0 h2) xNo := by
  refine xcode_start (by decide) (Nat.le_of_ble_eq_true rfl) hl ?_
  intro E hE B0
  subst hE
  have C := B0.1
  show xW G E 3 0 0 h 0 [(0, .ref m), (1, .int (bI b)), (2, .int its)] []
  have J24 : ∀ (FJ : Nat → Int32), FJ = sp_must F b its → ∀ h, MW m A FJ n B h0 h → xW G E 3 0 0 h 24 [(0, .ref m), (1, .int (bI b)), (2, .int its)] [] := by
    intro FJ eJ h hM
    refine x_aload_n C dX7_must_24 rfl ?_
    refine m_getI C dX7_must_25 fl_X7_198_6 hM rfl ?_
    refine x_sel_if_ne C 35 36 dX7_must_28 (by decide) dX7_must_31 dX7_must_32 (by decide) dX7_must_35 rfl ?_
    exact x_zret B0 dX7_must_36 rfl (bI_nar _) (by subst eJ; exact ⟨rfl, hM⟩)
  refine x_aload_n C dX7_must_0 rfl ?_
  refine m_getI C dX7_must_1 fl_X7_198_6 hM rfl ?_
  refine x_if_ne C 24 dX7_must_4 (by decide) (fun c_4 => ?_) (fun c_4 => ?_)
  · skip
    refine x_locs2 [(0, .ref m), (1, .int (bI b)), (2, .int its)] ⟨rfl, rfl, rfl, trivial⟩ ?_
    exact J24 F (by first | exact (sp_must_n (fun q => c_4 q.1)).symm | exact (sp_must_n (fun q => absurd hb_8 (by rw [q.2]; decide))).symm | exact (sp_must_y c_4 (by cases b; rfl; exact absurd rfl hb_8)).symm) h (by exact hM)
  · skip
    refine x_iload_n C dX7_must_7 rfl ?_
    by_cases hb_8 : b = true
    · refine x_toi (nI 1) (bI_T hb_8) ?_
      refine x_if_ne C 24 dX7_must_8 (by decide) (fun c_8 => ?_) (fun c_8 => ?_)
      rotate_left
      · exact absurd c_8 (by decide)
      refine x_locs2 [(0, .ref m), (1, .int (bI b)), (2, .int its)] ⟨rfl, rfl, rfl, trivial⟩ ?_
      exact J24 F (by first | exact (sp_must_n (fun q => c_4 q.1)).symm | exact (sp_must_n (fun q => absurd hb_8 (by rw [q.2]; decide))).symm | exact (sp_must_y c_4 (by cases b; rfl; exact absurd rfl hb_8)).symm) h (by exact hM)
    · refine x_toi (nI 0) (bI_Fn hb_8) ?_
      refine x_if_ne C 24 dX7_must_8 (by decide) (fun c_8 => ?_) (fun c_8 => ?_)
      · exact absurd c_8 (by decide)
      refine x_aload_n C dX7_must_11 rfl ?_
      refine x_iload_n C dX7_must_12 rfl ?_
      refine m_putI C dX7_must_13 fl_X7_198_6 hM rfl rfl ⟨rfl, rfl⟩ (fun h hM => ?_)
      obtain ⟨F1, eF1, hM⟩ := MW.nameF hM
      refine x_aload_n C dX7_must_16 rfl ?_
      refine x_aload_n C dX7_must_17 rfl ?_
      refine m_getI C dX7_must_18 fl_X7_189_6 hM rfl ?_
      refine m_putI C dX7_must_21 fl_X7_201_6 hM rfl rfl ⟨rfl, rfl⟩ (fun h hM => ?_)
      obtain ⟨F2, eF2, hM⟩ := MW.nameF hM
      refine x_locs2 [(0, .ref m), (1, .int (bI b)), (2, .int its)] ⟨rfl, rfl, rfl, trivial⟩ ?_
      exact J24 F2 (by subst eF2; subst eF1; first | exact (sp_must_n (fun q => c_4 q.1)).symm | exact (sp_must_n (fun q => absurd hb_8 (by rw [q.2]; decide))).symm | exact (sp_must_y c_4 (by cases b; rfl; exact absurd rfl hb_8)).symm) h (by exact hM)
theorem c_X7_goesOn {G : xG} {l : Launch} (hl : l.stackTraces = false) {m : Nat} {A : Nat → Nat} {F n : Nat → Int32} {B : Nat → Nat → Int32} {h0 h : xAH} (hM : MW m A F n B h0 h) (hP : Pok F)  : xM G l yX7_goesOn cX7_goesOn 1 (Option.none : Option Jvm.ClassFile.FieldType) [] 3 0 0 [.ref m] h (fun r h2 => r = none ∧ MW m A (sp_on (B 9) F) n B h0 h2) xNo := by
  refine xcode_start (by decide) (Nat.le_of_ble_eq_true rfl) hl ?_
  intro E hE B0
  subst hE
  have C := B0.1
  show xW G E 1 0 0 h 0 [(0, .ref m)] []
  refine x_aload_n C dX7_goesOn_0 rfl ?_
  refine m_getI C dX7_goesOn_1 fl_X7_198_6 hM rfl ?_
  refine x_if_ne C 11 dX7_goesOn_4 (by decide) (fun c_4 => ?_) (fun c_4 => ?_)
  · skip
    exact x_ret B0 dX7_goesOn_11 rfl (by first | (rw [sp_on_n c_4]; exact ⟨rfl, hM⟩) | (rw [sp_on_y c_4]; exact ⟨rfl, hM⟩))
  · skip
    refine x_aload_n C dX7_goesOn_7 rfl ?_
    refine x_callV (mc' := 0) (ms' := 0) C dX7_goesOn_8 (c_X7_reads0 hl hM hP.p0) mf_X7_reads q3688 q3690 qs63 (Or.inl hM.1) rfl rfl rfl (Nat.le_of_ble_eq_true rfl) (by decide) rfl rfl (fun r h hP => ?_) (fun _ _ _ hX => False.elim hX)
    obtain ⟨rfl, hM⟩ := hP
    obtain ⟨F1, eF1, hM⟩ := MW.nameF hM
    have hP_F1 : Pok F1 := by rw [eF1]; exact hP.reads
    exact x_ret B0 dX7_goesOn_11 rfl (by subst eF1; first | (rw [sp_on_n c_4]; exact ⟨rfl, hM⟩) | (rw [sp_on_y c_4]; exact ⟨rfl, hM⟩))
theorem c_X7_isSign {G : xG} {l : Launch} (hl : l.stackTraces = false) {m : Nat} {A : Nat → Nat} {F n : Nat → Int32} {B : Nat → Nat → Int32} {h0 h : xAH} (hM : MW m A F n B h0 h) (hP : Pok F) (c : Int32) : xM G l yX7_isSign cX7_isSign 2 (Option.some Jvm.ClassFile.FieldType.boolean) [] 2 0 0 [.ref m, .int c] h (fun r h2 => r = some (.int (bI (sp_isSign (B 9) F c))) ∧ MW m A F n B h0 h2) xNo := by
  refine xcode_start (by decide) (Nat.le_of_ble_eq_true rfl) hl ?_
  intro E hE B0
  subst hE
  have C := B0.1
  have hp10 := hP.1.2; have hp13 := hP.2.1.2; have hp14 := hP.2.2.1.2; have hp1 := hP.2.2.2.1; have hp2 := hP.2.2.2.2
  show xW G E 2 0 0 h 0 [(0, .ref m), (1, .int c)] []
  refine x_aload_n C dX7_isSign_0 rfl ?_
  refine m_getI C dX7_isSign_1 fl_X7_198_6 hM rfl ?_
  refine x_if_ne C 31 dX7_isSign_4 (by decide) (fun c_4 => ?_) (fun c_4 => ?_)
  · skip
    refine x_iconst C (nI 0) dX7_isSign_31 rfl ?_
    exact x_zret B0 dX7_isSign_32 rfl rfl (⟨by unfold sp_isSign; first | rw [bI_t (And.intro c_4 (And.intro c_12 c_24))] | rw [bI_f (fun q => c_4 q.1)] | rw [bI_f (fun q => c_12 q.2.1)] | rw [bI_f (fun q => c_24 q.2.2)], hM⟩)
  · skip
    refine x_aload_n C dX7_isSign_7 rfl ?_
    refine m_getI C dX7_isSign_8 fl_X7_192_6 hM rfl ?_
    refine x_iconst C (nI 3) dX7_isSign_11 rfl ?_
    refine x_icmp_ne C 31 dX7_isSign_12 (by decide) (fun c_12 => ?_) (fun c_12 => ?_)
    · skip
      refine x_iconst C (nI 0) dX7_isSign_31 rfl ?_
      exact x_zret B0 dX7_isSign_32 rfl rfl (⟨by unfold sp_isSign; first | rw [bI_t (And.intro c_4 (And.intro c_12 c_24))] | rw [bI_f (fun q => c_4 q.1)] | rw [bI_f (fun q => c_12 q.2.1)] | rw [bI_f (fun q => c_24 q.2.2)], hM⟩)
    · skip
      refine x_aload_n C dX7_isSign_15 rfl ?_
      refine x_aload_n C dX7_isSign_16 rfl ?_
      refine m_getI C dX7_isSign_17 fl_X7_189_6 hM rfl ?_
      refine x_toi (nI (cn (F 14))) (by exact hP.2.2.1.1) ?_
      refine x_callV (mc' := 0) (ms' := 0) C dX7_isSign_20 (c_X7_seen hl hM (cn (F 14)) (cn (F 10)) (by omega) hP.1.1 (by omega)) mf_X7_seen q3692 q3694 qs64 (Or.inl hM.1) rfl rfl rfl (Nat.le_of_ble_eq_true rfl) (by decide) rfl rfl (fun r h hP => ?_) (fun _ _ _ hX => False.elim hX)
      obtain ⟨rfl, hM⟩ := hP
      refine x_iload_n C dX7_isSign_23 rfl ?_
      refine x_icmp_ne C 31 dX7_isSign_24 (by decide) (fun c_24 => ?_) (fun c_24 => ?_)
      · skip
        refine x_iconst C (nI 0) dX7_isSign_31 rfl ?_
        exact x_zret B0 dX7_isSign_32 rfl rfl (⟨by unfold sp_isSign; first | rw [bI_t (And.intro c_4 (And.intro c_12 c_24))] | rw [bI_f (fun q => c_4 q.1)] | rw [bI_f (fun q => c_12 q.2.1)] | rw [bI_f (fun q => c_24 q.2.2)], hM⟩)
      · skip
        refine x_iconst C (nI 1) dX7_isSign_27 rfl ?_
        refine x_goto C 32 dX7_isSign_28 (by decide) ?_
        exact x_zret B0 dX7_isSign_32 rfl rfl (⟨by unfold sp_isSign; first | rw [bI_t (And.intro c_4 (And.intro c_12 c_24))] | rw [bI_f (fun q => c_4 q.1)] | rw [bI_f (fun q => c_12 q.2.1)] | rw [bI_f (fun q => c_24 q.2.2)], hM⟩)
theorem c_X7_takesSign {G : xG} {l : Launch} (hl : l.stackTraces = false) {m : Nat} {A : Nat → Nat} {F n : Nat → Int32} {B : Nat → Nat → Int32} {h0 h : xAH} (hM : MW m A F n B h0 h) (hP : Pok F) (c : Int32) : xM G l yX7_takesSign cX7_takesSign 2 (Option.none : Option Jvm.ClassFile.FieldType) [] 4 0 0 [.ref m, .int c] h (fun r h2 => r = none ∧ MW m A (sp_sign (B 9) F c) n B h0 h2) xNo := by
  refine xcode_start (by decide) (Nat.le_of_ble_eq_true rfl) hl ?_
  intro E hE B0
  subst hE
  have C := B0.1
  show xW G E 2 0 0 h 0 [(0, .ref m), (1, .int c)] []
  refine x_aload_n C dX7_takesSign_0 rfl ?_
  refine x_aload_n C dX7_takesSign_1 rfl ?_
  refine x_iload_n C dX7_takesSign_2 rfl ?_
  refine x_callV (mc' := 0) (ms' := 0) C dX7_takesSign_3 (c_X7_isSign hl hM hP c) mf_X7_isSign q3729 q3731 qs72 (Or.inl hM.1) rfl rfl rfl (Nat.le_of_ble_eq_true rfl) (by decide) rfl rfl (fun r h hP => ?_) (fun _ _ _ hX => False.elim hX)
  obtain ⟨rfl, hM⟩ := hP
  refine x_iconst C (nI 1) dX7_takesSign_6 rfl ?_
  refine x_callV (mc' := 0) (ms' := 0) C dX7_takesSign_7 (c_X7_must hl hM (sp_isSign (B 9) F c) (nI 1)) mf_X7_must q3709 q3711 qs67 (Or.inl hM.1) rfl rfl rfl (Nat.le_of_ble_eq_true rfl) (by decide) rfl rfl (fun r h hP => ?_) (fun _ _ _ hX => False.elim hX)
  obtain ⟨rfl, hM⟩ := hP
  obtain ⟨F1, eF1, hM⟩ := MW.nameF hM
  have hP_F1 : Pok F1 := by rw [eF1]; exact hP.must _ _
  refine x_pop C dX7_takesSign_10 rfl ?_
  refine x_aload_n C dX7_takesSign_11 rfl ?_
  refine x_callV (mc' := 0) (ms' := 0) C dX7_takesSign_12 (c_X7_goesOn hl hM hP_F1) mf_X7_goesOn q3713 q3715 qs68 (Or.inl hM.1) rfl rfl rfl (Nat.le_of_ble_eq_true rfl) (by decide) rfl rfl (fun r h hP => ?_) (fun _ _ _ hX => False.elim hX)
  obtain ⟨rfl, hM⟩ := hP
  obtain ⟨F2, eF2, hM⟩ := MW.nameF hM
  have hP_F2 : Pok F2 := by rw [eF2]; exact hP_F1.on _
  exact x_ret B0 dX7_takesSign_15 rfl (by subst eF2; subst eF1; exact ⟨rfl, hM⟩)
