/-! ===== the reference: public changes ===== -/
theorem c_X7_cancel_t {G : xG} {l : Launch} (hl : l.stackTraces = false) {m : Nat} {A : Nat → Nat} {F n : Nat → Int32} {B : Nat → Nat → Int32} {h0 h : xAH} (hM : MW m A F n B h0 h) {S Gn Cn T : Nat} (hI : Ginv n S Gn Cn T) (u : Nat) (hU : F 6 = nI u) (hu8 : u ≤ 8) (sc : Bool) (hsc : F 29 = bI sc) (i : Nat) (hi : i < Cn) (hb : 0 < n (142 + 5 * i + 4)) : xM G l yX7_cancel cX7_cancel 2 (Option.some Jvm.ClassFile.FieldType.int) [] 4 0 0 [.ref m, .int (nI i)] h (fun r h2 => r = some (.int (n (142 + 5 * i + 4))) ∧ MW m A (sp_chF (va_up F 7 (nI 0)) u sc) (va_up n (142 + 5 * i + 4) (nI 0)) (sp_chB B n u sc) h0 h2) xNo := by
  refine xcode_start (by decide) (Nat.le_of_ble_eq_true rfl) hl ?_
  intro E hE B0
  subst hE
  have C := B0.1
  show xW G E 2 0 0 h 0 [(0, .ref m), (1, .int (nI i))] []
  refine x_aload_n C dX7_cancel_0 rfl ?_
  refine x_iconst C (nI 0) dX7_cancel_1 rfl ?_
  refine m_putI C dX7_cancel_2 fl_X7_85_6 hM rfl rfl ⟨rfl, rfl⟩ (fun h hM => ?_)
  obtain ⟨F1, eF1, hM⟩ := MW.nameF hM
  refine x_aload_n C dX7_cancel_5 rfl ?_
  refine x_iload_n C dX7_cancel_6 rfl ?_
  have hU1 : F1 6 = nI u := by rw [eF1]; exact hU
  have hsc1 : F1 29 = bI sc := by rw [eF1]; exact hsc
  have h71 : F1 7 = 0 := by rw [eF1]; rfl
  refine x_callV (mc' := 0) (ms' := 0) C dX7_cancel_7 (c_X7_cancelling_t hl hM hI u hU1 hu8 sc hsc1 h71 i hi hb) mf_X7_cancelling q4004 q4006 qs106 (Or.inl hM.1) rfl rfl rfl (Nat.le_of_ble_eq_true rfl) (by decide) rfl rfl (fun r h hP => ?_) (fun _ _ _ hX => False.elim hX)
  obtain ⟨rfl, hM⟩ := hP
  obtain ⟨F2, eF2, hM⟩ := MW.nameF hM
  obtain ⟨B3, eB3, hM⟩ := MW.nameB hM
  obtain ⟨n4, en4, hM⟩ := MW.nameN hM
  exact x_iret B0 dX7_cancel_10 rfl (by have q_ := en4.symm; subst q_; have q_ := eB3.symm; subst q_; have q_ := eF2.symm; subst q_; have q_ := eF1.symm; subst q_; exact ⟨rfl, hM⟩)
theorem c_X7_cancel_b {G : xG} {l : Launch} (hl : l.stackTraces = false) {m : Nat} {A : Nat → Nat} {F n : Nat → Int32} {B : Nat → Nat → Int32} {h0 h : xAH} (hM : MW m A F n B h0 h) {S Gn Cn T : Nat} (hI : Ginv n S Gn Cn T) (i : Nat) (hi : i < Cn) (hb : ¬ 0 < n (142 + 5 * i + 4)) : xM G l yX7_cancel cX7_cancel 2 (Option.some Jvm.ClassFile.FieldType.int) [] 4 0 0 [.ref m, .int (nI i)] h (fun r h2 => r = some (.int (nI 0)) ∧ MW m A (va_up (va_up F 7 (nI 0)) 7 (nI 2)) n B h0 h2) xNo := by
  refine xcode_start (by decide) (Nat.le_of_ble_eq_true rfl) hl ?_
  intro E hE B0
  subst hE
  have C := B0.1
  show xW G E 2 0 0 h 0 [(0, .ref m), (1, .int (nI i))] []
  refine x_aload_n C dX7_cancel_0 rfl ?_
  refine x_iconst C (nI 0) dX7_cancel_1 rfl ?_
  refine m_putI C dX7_cancel_2 fl_X7_85_6 hM rfl rfl ⟨rfl, rfl⟩ (fun h hM => ?_)
  obtain ⟨F1, eF1, hM⟩ := MW.nameF hM
  refine x_aload_n C dX7_cancel_5 rfl ?_
  refine x_iload_n C dX7_cancel_6 rfl ?_
  have h71 : F1 7 = 0 := by rw [eF1]; rfl
  refine x_callV (mc' := 0) (ms' := 0) C dX7_cancel_7 (c_X7_cancelling_b hl hM hI h71 i hi hb) mf_X7_cancelling q4004 q4006 qs106 (Or.inl hM.1) rfl rfl rfl (Nat.le_of_ble_eq_true rfl) (by decide) rfl rfl (fun r h hP => ?_) (fun _ _ _ hX => False.elim hX)
  obtain ⟨rfl, hM⟩ := hP
  obtain ⟨F2, eF2, hM⟩ := MW.nameF hM
  exact x_iret B0 dX7_cancel_10 rfl (by have q_ := eF2.symm; subst q_; have q_ := eF1.symm; subst q_; exact ⟨rfl, hM⟩)
theorem c_X7_cancel_f {G : xG} {l : Launch} (hl : l.stackTraces = false) {m : Nat} {A : Nat → Nat} {F n : Nat → Int32} {B : Nat → Nat → Int32} {h0 h : xAH} (hM : MW m A F n B h0 h) {S Gn Cn T : Nat} (hI : Ginv n S Gn Cn T) (x : Int32) (hx : ¬ isIn x Cn) : xM G l yX7_cancel cX7_cancel 2 (Option.some Jvm.ClassFile.FieldType.int) [] 4 0 0 [.ref m, .int x] h (fun r h2 => r = some (.int (nI 0)) ∧ MW m A (va_up (va_up F 7 (nI 0)) 7 (nI 1)) n B h0 h2) xNo := by
  refine xcode_start (by decide) (Nat.le_of_ble_eq_true rfl) hl ?_
  intro E hE B0
  subst hE
  have C := B0.1
  show xW G E 2 0 0 h 0 [(0, .ref m), (1, .int x)] []
  refine x_aload_n C dX7_cancel_0 rfl ?_
  refine x_iconst C (nI 0) dX7_cancel_1 rfl ?_
  refine m_putI C dX7_cancel_2 fl_X7_85_6 hM rfl rfl ⟨rfl, rfl⟩ (fun h hM => ?_)
  obtain ⟨F1, eF1, hM⟩ := MW.nameF hM
  refine x_aload_n C dX7_cancel_5 rfl ?_
  refine x_iload_n C dX7_cancel_6 rfl ?_
  have h71 : F1 7 = 0 := by rw [eF1]; rfl
  refine x_callV (mc' := 0) (ms' := 0) C dX7_cancel_7 (c_X7_cancelling_f hl hM hI h71 x hx) mf_X7_cancelling q4004 q4006 qs106 (Or.inl hM.1) rfl rfl rfl (Nat.le_of_ble_eq_true rfl) (by decide) rfl rfl (fun r h hP => ?_) (fun _ _ _ hX => False.elim hX)
  obtain ⟨rfl, hM⟩ := hP
  obtain ⟨F2, eF2, hM⟩ := MW.nameF hM
  exact x_iret B0 dX7_cancel_10 rfl (by have q_ := eF2.symm; subst q_; have q_ := eF1.symm; subst q_; exact ⟨rfl, hM⟩)
theorem c_X7_advance_t {G : xG} {l : Launch} (hl : l.stackTraces = false) {m : Nat} {A : Nat → Nat} {F n : Nat → Int32} {B : Nat → Nat → Int32} {h0 h : xAH} (hM : MW m A F n B h0 h) {S Gn Cn T : Nat} (hI : Ginv n S Gn Cn T) (u : Nat) (hU : F 6 = nI u) (hu8 : u ≤ 8) (sc : Bool) (hsc : F 29 = bI sc) (x : Nat) (h1 : 1 ≤ x) (h30 : x ≤ 30) (hle : cn (n 5) + x ≤ 9999) (hT2 : T + x < 20000) : xM G l yX7_advance cX7_advance 2 (Option.some Jvm.ClassFile.FieldType.int) [] 8 0 0 [.ref m, .int (nI x)] h (fun r h2 => r = some (.int (sp_nights n S Gn Cn x 11 - n 11)) ∧ MW m A (sp_nightsF (sp_chF (va_up F 7 (nI 0)) u sc) n S Gn Cn x) (sp_nights n S Gn Cn x) (sp_chB B n u sc) h0 h2) xNo := by
  refine xcode_start (by decide) (Nat.le_of_ble_eq_true rfl) hl ?_
  intro E hE B0
  subst hE
  have C := B0.1
  show xW G E 2 0 0 h 0 [(0, .ref m), (1, .int (nI x))] []
  refine x_aload_n C dX7_advance_0 rfl ?_
  refine x_iconst C (nI 0) dX7_advance_1 rfl ?_
  refine m_putI C dX7_advance_2 fl_X7_85_6 hM rfl rfl ⟨rfl, rfl⟩ (fun h hM => ?_)
  obtain ⟨F1, eF1, hM⟩ := MW.nameF hM
  refine x_aload_n C dX7_advance_5 rfl ?_
  refine x_iload_n C dX7_advance_6 rfl ?_
  have hU1 : F1 6 = nI u := by rw [eF1]; exact hU
  have hsc1 : F1 29 = bI sc := by rw [eF1]; exact hsc
  have h71 : F1 7 = 0 := by rw [eF1]; rfl
  refine x_callV (mc' := 0) (ms' := 0) C dX7_advance_7 (c_X7_advancing_t hl hM hI u hU1 hu8 sc hsc1 h71 x h1 h30 hle hT2) mf_X7_advancing q4008 q4010 qs107 (Or.inl hM.1) rfl rfl rfl (Nat.le_of_ble_eq_true rfl) (by decide) rfl rfl (fun r h hP => ?_) (fun _ _ _ hX => False.elim hX)
  obtain ⟨rfl, hM⟩ := hP
  obtain ⟨F2, eF2, hM⟩ := MW.nameF hM
  obtain ⟨B3, eB3, hM⟩ := MW.nameB hM
  obtain ⟨n4, en4, hM⟩ := MW.nameN hM
  exact x_iret B0 dX7_advance_10 rfl (by have q_ := en4.symm; subst q_; have q_ := eB3.symm; subst q_; have q_ := eF2.symm; subst q_; have q_ := eF1.symm; subst q_; exact ⟨rfl, hM⟩)
theorem c_X7_advance_l {G : xG} {l : Launch} (hl : l.stackTraces = false) {m : Nat} {A : Nat → Nat} {F n : Nat → Int32} {B : Nat → Nat → Int32} {h0 h : xAH} (hM : MW m A F n B h0 h) {S Gn Cn T : Nat} (hI : Ginv n S Gn Cn T) (x : Nat) (h1 : 1 ≤ x) (h30 : x ≤ 30) (hle : ¬ cn (n 5) + x ≤ 9999) : xM G l yX7_advance cX7_advance 2 (Option.some Jvm.ClassFile.FieldType.int) [] 8 0 0 [.ref m, .int (nI x)] h (fun r h2 => r = some (.int (nI 0)) ∧ MW m A (va_up (va_up F 7 (nI 0)) 7 (nI 2)) n B h0 h2) xNo := by
  refine xcode_start (by decide) (Nat.le_of_ble_eq_true rfl) hl ?_
  intro E hE B0
  subst hE
  have C := B0.1
  show xW G E 2 0 0 h 0 [(0, .ref m), (1, .int (nI x))] []
  refine x_aload_n C dX7_advance_0 rfl ?_
  refine x_iconst C (nI 0) dX7_advance_1 rfl ?_
  refine m_putI C dX7_advance_2 fl_X7_85_6 hM rfl rfl ⟨rfl, rfl⟩ (fun h hM => ?_)
  obtain ⟨F1, eF1, hM⟩ := MW.nameF hM
  refine x_aload_n C dX7_advance_5 rfl ?_
  refine x_iload_n C dX7_advance_6 rfl ?_
  have h71 : F1 7 = 0 := by rw [eF1]; rfl
  refine x_callV (mc' := 0) (ms' := 0) C dX7_advance_7 (c_X7_advancing_l hl hM hI h71 x h1 h30 hle) mf_X7_advancing q4008 q4010 qs107 (Or.inl hM.1) rfl rfl rfl (Nat.le_of_ble_eq_true rfl) (by decide) rfl rfl (fun r h hP => ?_) (fun _ _ _ hX => False.elim hX)
  obtain ⟨rfl, hM⟩ := hP
  obtain ⟨F2, eF2, hM⟩ := MW.nameF hM
  exact x_iret B0 dX7_advance_10 rfl (by have q_ := eF2.symm; subst q_; have q_ := eF1.symm; subst q_; exact ⟨rfl, hM⟩)
theorem c_X7_advance_f {G : xG} {l : Launch} (hl : l.stackTraces = false) {m : Nat} {A : Nat → Nat} {F n : Nat → Int32} {B : Nat → Nat → Int32} {h0 h : xAH} (hM : MW m A F n B h0 h) (x : Int32) (hx : ¬ (nI 1 ≤ x ∧ x ≤ nI 30)) : xM G l yX7_advance cX7_advance 2 (Option.some Jvm.ClassFile.FieldType.int) [] 8 0 0 [.ref m, .int x] h (fun r h2 => r = some (.int (nI 0)) ∧ MW m A (va_up (va_up F 7 (nI 0)) 7 (nI 1)) n B h0 h2) xNo := by
  refine xcode_start (by decide) (Nat.le_of_ble_eq_true rfl) hl ?_
  intro E hE B0
  subst hE
  have C := B0.1
  show xW G E 2 0 0 h 0 [(0, .ref m), (1, .int x)] []
  refine x_aload_n C dX7_advance_0 rfl ?_
  refine x_iconst C (nI 0) dX7_advance_1 rfl ?_
  refine m_putI C dX7_advance_2 fl_X7_85_6 hM rfl rfl ⟨rfl, rfl⟩ (fun h hM => ?_)
  obtain ⟨F1, eF1, hM⟩ := MW.nameF hM
  refine x_aload_n C dX7_advance_5 rfl ?_
  refine x_iload_n C dX7_advance_6 rfl ?_
  have h71 : F1 7 = 0 := by rw [eF1]; rfl
  refine x_callV (mc' := 0) (ms' := 0) C dX7_advance_7 (c_X7_advancing_f hl hM h71 x hx) mf_X7_advancing q4008 q4010 qs107 (Or.inl hM.1) rfl rfl rfl (Nat.le_of_ble_eq_true rfl) (by decide) rfl rfl (fun r h hP => ?_) (fun _ _ _ hX => False.elim hX)
  obtain ⟨rfl, hM⟩ := hP
  obtain ⟨F2, eF2, hM⟩ := MW.nameF hM
  exact x_iret B0 dX7_advance_10 rfl (by have q_ := eF2.symm; subst q_; have q_ := eF1.symm; subst q_; exact ⟨rfl, hM⟩)
theorem c_X7_sign_t {G : xG} {l : Launch} (hl : l.stackTraces = false) {m : Nat} {A : Nat → Nat} {F n : Nat → Int32} {B : Nat → Nat → Int32} {h0 h : xAH} (hM : MW m A F n B h0 h) {S Gn Cn T : Nat} (hI : Ginv n S Gn Cn T) (u : Nat) (hU : F 6 = nI u) (hu8 : u ≤ 8) (sc : Bool) (hsc : F 29 = bI sc) (c s g : Nat) (hc : c < Cn) (hs : s < S) (hg : g < Gn) (x : Nat) (h1 : 1 ≤ x) (h30 : x ≤ 30) (hb : ¬ 0 < n (142 + 5 * c + 4)) : xM G l yX7_sign cX7_sign 5 (Option.some Jvm.ClassFile.FieldType.int) [] 4 0 0 [.ref m, .int (nI c), .int (nI s), .int (nI g), .int (nI x)] h (fun r h2 => r = some (.int (sp_hours (sp_signN n c s g x) c s g)) ∧ MW m A (sp_chF (va_up F 7 (nI 0)) u sc) (sp_signN n c s g x) (sp_chB B n u sc) h0 h2) xNo := by
  refine xcode_start (by decide) (Nat.le_of_ble_eq_true rfl) hl ?_
  intro E hE B0
  subst hE
  have C := B0.1
  show xW G E 5 0 0 h 0 [(0, .ref m), (1, .int (nI c)), (2, .int (nI s)), (3, .int (nI g)), (4, .int (nI x))] []
  refine x_aload_n C dX7_sign_0 rfl ?_
  refine x_iconst C (nI 0) dX7_sign_1 rfl ?_
  refine m_putI C dX7_sign_2 fl_X7_85_6 hM rfl rfl ⟨rfl, rfl⟩ (fun h hM => ?_)
  obtain ⟨F1, eF1, hM⟩ := MW.nameF hM
  refine x_aload_n C dX7_sign_5 rfl ?_
  refine x_iload_n C dX7_sign_6 rfl ?_
  refine x_iload_n C dX7_sign_7 rfl ?_
  refine x_iload_n C dX7_sign_8 rfl ?_
  refine x_iload C dX7_sign_9 rfl ?_
  have hU1 : F1 6 = nI u := by rw [eF1]; exact hU
  have hsc1 : F1 29 = bI sc := by rw [eF1]; exact hsc
  have h71 : F1 7 = 0 := by rw [eF1]; rfl
  refine x_callV (mc' := 0) (ms' := 0) C dX7_sign_11 (c_X7_signing_t hl hM hI u hU1 hu8 sc hsc1 h71 c s g hc hs hg x h1 h30 hb) mf_X7_signing q3971 q3973 qs98 (Or.inl hM.1) rfl rfl rfl (Nat.le_of_ble_eq_true rfl) (by decide) rfl rfl (fun r h hP => ?_) (fun _ _ _ hX => False.elim hX)
  obtain ⟨rfl, hM⟩ := hP
  obtain ⟨F2, eF2, hM⟩ := MW.nameF hM
  obtain ⟨B3, eB3, hM⟩ := MW.nameB hM
  obtain ⟨n4, en4, hM⟩ := MW.nameN hM
  exact x_iret B0 dX7_sign_14 rfl (by have q_ := en4.symm; subst q_; have q_ := eB3.symm; subst q_; have q_ := eF2.symm; subst q_; have q_ := eF1.symm; subst q_; exact ⟨rfl, hM⟩)
theorem c_X7_sign_b {G : xG} {l : Launch} (hl : l.stackTraces = false) {m : Nat} {A : Nat → Nat} {F n : Nat → Int32} {B : Nat → Nat → Int32} {h0 h : xAH} (hM : MW m A F n B h0 h) {S Gn Cn T : Nat} (hI : Ginv n S Gn Cn T) (c s g : Nat) (hc : c < Cn) (hs : s < S) (hg : g < Gn) (x : Nat) (h1 : 1 ≤ x) (h30 : x ≤ 30) (hb : 0 < n (142 + 5 * c + 4)) : xM G l yX7_sign cX7_sign 5 (Option.some Jvm.ClassFile.FieldType.int) [] 4 0 0 [.ref m, .int (nI c), .int (nI s), .int (nI g), .int (nI x)] h (fun r h2 => r = some (.int (nI 0)) ∧ MW m A (va_up (va_up F 7 (nI 0)) 7 (nI 3)) n B h0 h2) xNo := by
  refine xcode_start (by decide) (Nat.le_of_ble_eq_true rfl) hl ?_
  intro E hE B0
  subst hE
  have C := B0.1
  show xW G E 5 0 0 h 0 [(0, .ref m), (1, .int (nI c)), (2, .int (nI s)), (3, .int (nI g)), (4, .int (nI x))] []
  refine x_aload_n C dX7_sign_0 rfl ?_
  refine x_iconst C (nI 0) dX7_sign_1 rfl ?_
  refine m_putI C dX7_sign_2 fl_X7_85_6 hM rfl rfl ⟨rfl, rfl⟩ (fun h hM => ?_)
  obtain ⟨F1, eF1, hM⟩ := MW.nameF hM
  refine x_aload_n C dX7_sign_5 rfl ?_
  refine x_iload_n C dX7_sign_6 rfl ?_
  refine x_iload_n C dX7_sign_7 rfl ?_
  refine x_iload_n C dX7_sign_8 rfl ?_
  refine x_iload C dX7_sign_9 rfl ?_
  have h71 : F1 7 = 0 := by rw [eF1]; rfl
  refine x_callV (mc' := 0) (ms' := 0) C dX7_sign_11 (c_X7_signing_b hl hM hI h71 c s g hc hs hg x h1 h30 hb) mf_X7_signing q3971 q3973 qs98 (Or.inl hM.1) rfl rfl rfl (Nat.le_of_ble_eq_true rfl) (by decide) rfl rfl (fun r h hP => ?_) (fun _ _ _ hX => False.elim hX)
  obtain ⟨rfl, hM⟩ := hP
  obtain ⟨F2, eF2, hM⟩ := MW.nameF hM
  exact x_iret B0 dX7_sign_14 rfl (by have q_ := eF2.symm; subst q_; have q_ := eF1.symm; subst q_; exact ⟨rfl, hM⟩)
theorem c_X7_sign_n {G : xG} {l : Launch} (hl : l.stackTraces = false) {m : Nat} {A : Nat → Nat} {F n : Nat → Int32} {B : Nat → Nat → Int32} {h0 h : xAH} (hM : MW m A F n B h0 h) {S Gn Cn T : Nat} (hI : Ginv n S Gn Cn T) (c s g : Nat) (hc : c < Cn) (hs : s < S) (hg : g < Gn) (x : Int32) (hx : ¬ (nI 1 ≤ x ∧ x ≤ nI 30)) : xM G l yX7_sign cX7_sign 5 (Option.some Jvm.ClassFile.FieldType.int) [] 4 0 0 [.ref m, .int (nI c), .int (nI s), .int (nI g), .int x] h (fun r h2 => r = some (.int (nI 0)) ∧ MW m A (va_up (va_up F 7 (nI 0)) 7 (nI 2)) n B h0 h2) xNo := by
  refine xcode_start (by decide) (Nat.le_of_ble_eq_true rfl) hl ?_
  intro E hE B0
  subst hE
  have C := B0.1
  show xW G E 5 0 0 h 0 [(0, .ref m), (1, .int (nI c)), (2, .int (nI s)), (3, .int (nI g)), (4, .int x)] []
  refine x_aload_n C dX7_sign_0 rfl ?_
  refine x_iconst C (nI 0) dX7_sign_1 rfl ?_
  refine m_putI C dX7_sign_2 fl_X7_85_6 hM rfl rfl ⟨rfl, rfl⟩ (fun h hM => ?_)
  obtain ⟨F1, eF1, hM⟩ := MW.nameF hM
  refine x_aload_n C dX7_sign_5 rfl ?_
  refine x_iload_n C dX7_sign_6 rfl ?_
  refine x_iload_n C dX7_sign_7 rfl ?_
  refine x_iload_n C dX7_sign_8 rfl ?_
  refine x_iload C dX7_sign_9 rfl ?_
  have h71 : F1 7 = 0 := by rw [eF1]; rfl
  refine x_callV (mc' := 0) (ms' := 0) C dX7_sign_11 (c_X7_signing_n hl hM hI h71 c s g hc hs hg x hx) mf_X7_signing q3971 q3973 qs98 (Or.inl hM.1) rfl rfl rfl (Nat.le_of_ble_eq_true rfl) (by decide) rfl rfl (fun r h hP => ?_) (fun _ _ _ hX => False.elim hX)
  obtain ⟨rfl, hM⟩ := hP
  obtain ⟨F2, eF2, hM⟩ := MW.nameF hM
  exact x_iret B0 dX7_sign_14 rfl (by have q_ := eF2.symm; subst q_; have q_ := eF1.symm; subst q_; exact ⟨rfl, hM⟩)
theorem c_X7_sign_f {G : xG} {l : Launch} (hl : l.stackTraces = false) {m : Nat} {A : Nat → Nat} {F n : Nat → Int32} {B : Nat → Nat → Int32} {h0 h : xAH} (hM : MW m A F n B h0 h) {S Gn Cn T : Nat} (hI : Ginv n S Gn Cn T) (c s g x : Int32) (hx : ¬ (isIn c Cn ∧ isIn s S ∧ isIn g Gn)) : xM G l yX7_sign cX7_sign 5 (Option.some Jvm.ClassFile.FieldType.int) [] 4 0 0 [.ref m, .int c, .int s, .int g, .int x] h (fun r h2 => r = some (.int (nI 0)) ∧ MW m A (va_up (va_up F 7 (nI 0)) 7 (nI 1)) n B h0 h2) xNo := by
  refine xcode_start (by decide) (Nat.le_of_ble_eq_true rfl) hl ?_
  intro E hE B0
  subst hE
  have C := B0.1
  show xW G E 5 0 0 h 0 [(0, .ref m), (1, .int c), (2, .int s), (3, .int g), (4, .int x)] []
  refine x_aload_n C dX7_sign_0 rfl ?_
  refine x_iconst C (nI 0) dX7_sign_1 rfl ?_
  refine m_putI C dX7_sign_2 fl_X7_85_6 hM rfl rfl ⟨rfl, rfl⟩ (fun h hM => ?_)
  obtain ⟨F1, eF1, hM⟩ := MW.nameF hM
  refine x_aload_n C dX7_sign_5 rfl ?_
  refine x_iload_n C dX7_sign_6 rfl ?_
  refine x_iload_n C dX7_sign_7 rfl ?_
  refine x_iload_n C dX7_sign_8 rfl ?_
  refine x_iload C dX7_sign_9 rfl ?_
  have h71 : F1 7 = 0 := by rw [eF1]; rfl
  refine x_callV (mc' := 0) (ms' := 0) C dX7_sign_11 (c_X7_signing_f hl hM hI h71 c s g x hx) mf_X7_signing q3971 q3973 qs98 (Or.inl hM.1) rfl rfl rfl (Nat.le_of_ble_eq_true rfl) (by decide) rfl rfl (fun r h hP => ?_) (fun _ _ _ hX => False.elim hX)
  obtain ⟨rfl, hM⟩ := hP
  obtain ⟨F2, eF2, hM⟩ := MW.nameF hM
  exact x_iret B0 dX7_sign_14 rfl (by have q_ := eF2.symm; subst q_; have q_ := eF1.symm; subst q_; exact ⟨rfl, hM⟩)
theorem c_X7_setWindOffset_t {G : xG} {l : Launch} (hl : l.stackTraces = false) {m : Nat} {A : Nat → Nat} {F n : Nat → Int32} {B : Nat → Nat → Int32} {h0 h : xAH} (hM : MW m A F n B h0 h) (u : Nat) (hU : F 6 = nI u) (hu8 : u ≤ 8) (sc : Bool) (hsc : F 29 = bI sc) (v : Int32) (hv : nI 0 ≤ v ∧ v ≤ nI 3) : xM G l yX7_setWindOffset cX7_setWindOffset 2 (Option.some Jvm.ClassFile.FieldType.int) [] 4 0 0 [.ref m, .int v] h (fun r h2 => r = some (.int (n 4)) ∧ MW m A (sp_chF (va_up F 7 (nI 0)) u sc) (va_up n 4 v) (sp_chB B n u sc) h0 h2) xNo := by
  refine xcode_start (by decide) (Nat.le_of_ble_eq_true rfl) hl ?_
  intro E hE B0
  subst hE
  have C := B0.1
  show xW G E 2 0 0 h 0 [(0, .ref m), (1, .int v)] []
  refine x_aload_n C dX7_setWindOffset_0 rfl ?_
  refine x_iconst C (nI 0) dX7_setWindOffset_1 rfl ?_
  refine m_putI C dX7_setWindOffset_2 fl_X7_85_6 hM rfl rfl ⟨rfl, rfl⟩ (fun h hM => ?_)
  obtain ⟨F1, eF1, hM⟩ := MW.nameF hM
  refine x_aload_n C dX7_setWindOffset_5 rfl ?_
  refine x_iconst C (nI 4) dX7_setWindOffset_6 rfl ?_
  refine x_iload_n C dX7_setWindOffset_7 rfl ?_
  refine x_iconst C (nI 3) dX7_setWindOffset_8 rfl ?_
  have hU1 : F1 6 = nI u := by rw [eF1]; exact hU
  have hsc1 : F1 29 = bI sc := by rw [eF1]; exact hsc
  have h71 : F1 7 = 0 := by rw [eF1]; rfl
  refine x_callV (mc' := 0) (ms' := 0) C dX7_setWindOffset_9 (c_X7_setting4_t hl hM u hU1 hu8 sc hsc1 v h71 hv) mf_X7_setting q4077 q4079 qs124 (Or.inl hM.1) rfl rfl rfl (Nat.le_of_ble_eq_true rfl) (by decide) rfl rfl (fun r h hP => ?_) (fun _ _ _ hX => False.elim hX)
  obtain ⟨rfl, hM⟩ := hP
  obtain ⟨F2, eF2, hM⟩ := MW.nameF hM
  obtain ⟨B3, eB3, hM⟩ := MW.nameB hM
  obtain ⟨n4, en4, hM⟩ := MW.nameN hM
  exact x_iret B0 dX7_setWindOffset_12 rfl (by have q_ := en4.symm; subst q_; have q_ := eB3.symm; subst q_; have q_ := eF2.symm; subst q_; have q_ := eF1.symm; subst q_; exact ⟨rfl, hM⟩)
theorem c_X7_setWindOffset_f {G : xG} {l : Launch} (hl : l.stackTraces = false) {m : Nat} {A : Nat → Nat} {F n : Nat → Int32} {B : Nat → Nat → Int32} {h0 h : xAH} (hM : MW m A F n B h0 h) (u : Nat) (hU : F 6 = nI u) (hu8 : u ≤ 8) (sc : Bool) (hsc : F 29 = bI sc) (v : Int32) (hv : ¬ (nI 0 ≤ v ∧ v ≤ nI 3)) : xM G l yX7_setWindOffset cX7_setWindOffset 2 (Option.some Jvm.ClassFile.FieldType.int) [] 4 0 0 [.ref m, .int v] h (fun r h2 => r = some (.int (nI 0)) ∧ MW m A (va_up (va_up F 7 (nI 0)) 7 (nI 1)) n B h0 h2) xNo := by
  refine xcode_start (by decide) (Nat.le_of_ble_eq_true rfl) hl ?_
  intro E hE B0
  subst hE
  have C := B0.1
  show xW G E 2 0 0 h 0 [(0, .ref m), (1, .int v)] []
  refine x_aload_n C dX7_setWindOffset_0 rfl ?_
  refine x_iconst C (nI 0) dX7_setWindOffset_1 rfl ?_
  refine m_putI C dX7_setWindOffset_2 fl_X7_85_6 hM rfl rfl ⟨rfl, rfl⟩ (fun h hM => ?_)
  obtain ⟨F1, eF1, hM⟩ := MW.nameF hM
  refine x_aload_n C dX7_setWindOffset_5 rfl ?_
  refine x_iconst C (nI 4) dX7_setWindOffset_6 rfl ?_
  refine x_iload_n C dX7_setWindOffset_7 rfl ?_
  refine x_iconst C (nI 3) dX7_setWindOffset_8 rfl ?_
  have hU1 : F1 6 = nI u := by rw [eF1]; exact hU
  have hsc1 : F1 29 = bI sc := by rw [eF1]; exact hsc
  have h71 : F1 7 = 0 := by rw [eF1]; rfl
  refine x_callV (mc' := 0) (ms' := 0) C dX7_setWindOffset_9 (c_X7_setting4_f hl hM u hU1 hu8 sc hsc1 v h71 hv) mf_X7_setting q4077 q4079 qs124 (Or.inl hM.1) rfl rfl rfl (Nat.le_of_ble_eq_true rfl) (by decide) rfl rfl (fun r h hP => ?_) (fun _ _ _ hX => False.elim hX)
  obtain ⟨rfl, hM⟩ := hP
  obtain ⟨F2, eF2, hM⟩ := MW.nameF hM
  exact x_iret B0 dX7_setWindOffset_12 rfl (by have q_ := eF2.symm; subst q_; have q_ := eF1.symm; subst q_; exact ⟨rfl, hM⟩)
theorem c_X7_setPrice_t {G : xG} {l : Launch} (hl : l.stackTraces = false) {m : Nat} {A : Nat → Nat} {F n : Nat → Int32} {B : Nat → Nat → Int32} {h0 h : xAH} (hM : MW m A F n B h0 h) (u : Nat) (hU : F 6 = nI u) (hu8 : u ≤ 8) (sc : Bool) (hsc : F 29 = bI sc) (v : Int32) (hv : nI 0 ≤ v ∧ v ≤ nI 9) : xM G l yX7_setPrice cX7_setPrice 2 (Option.some Jvm.ClassFile.FieldType.int) [] 4 0 0 [.ref m, .int v] h (fun r h2 => r = some (.int (n 1)) ∧ MW m A (sp_chF (va_up F 7 (nI 0)) u sc) (va_up n 1 v) (sp_chB B n u sc) h0 h2) xNo := by
  refine xcode_start (by decide) (Nat.le_of_ble_eq_true rfl) hl ?_
  intro E hE B0
  subst hE
  have C := B0.1
  show xW G E 2 0 0 h 0 [(0, .ref m), (1, .int v)] []
  refine x_aload_n C dX7_setPrice_0 rfl ?_
  refine x_iconst C (nI 0) dX7_setPrice_1 rfl ?_
  refine m_putI C dX7_setPrice_2 fl_X7_85_6 hM rfl rfl ⟨rfl, rfl⟩ (fun h hM => ?_)
  obtain ⟨F1, eF1, hM⟩ := MW.nameF hM
  refine x_aload_n C dX7_setPrice_5 rfl ?_
  refine x_iconst C (nI 1) dX7_setPrice_6 rfl ?_
  refine x_iload_n C dX7_setPrice_7 rfl ?_
  refine x_bipush C (nI 9) dX7_setPrice_8 rfl ?_
  have hU1 : F1 6 = nI u := by rw [eF1]; exact hU
  have hsc1 : F1 29 = bI sc := by rw [eF1]; exact hsc
  have h71 : F1 7 = 0 := by rw [eF1]; rfl
  refine x_callV (mc' := 0) (ms' := 0) C dX7_setPrice_10 (c_X7_setting1_t hl hM u hU1 hu8 sc hsc1 v h71 hv) mf_X7_setting q4077 q4079 qs124 (Or.inl hM.1) rfl rfl rfl (Nat.le_of_ble_eq_true rfl) (by decide) rfl rfl (fun r h hP => ?_) (fun _ _ _ hX => False.elim hX)
  obtain ⟨rfl, hM⟩ := hP
  obtain ⟨F2, eF2, hM⟩ := MW.nameF hM
  obtain ⟨B3, eB3, hM⟩ := MW.nameB hM
  obtain ⟨n4, en4, hM⟩ := MW.nameN hM
  exact x_iret B0 dX7_setPrice_13 rfl (by have q_ := en4.symm; subst q_; have q_ := eB3.symm; subst q_; have q_ := eF2.symm; subst q_; have q_ := eF1.symm; subst q_; exact ⟨rfl, hM⟩)
theorem c_X7_setPrice_f {G : xG} {l : Launch} (hl : l.stackTraces = false) {m : Nat} {A : Nat → Nat} {F n : Nat → Int32} {B : Nat → Nat → Int32} {h0 h : xAH} (hM : MW m A F n B h0 h) (u : Nat) (hU : F 6 = nI u) (hu8 : u ≤ 8) (sc : Bool) (hsc : F 29 = bI sc) (v : Int32) (hv : ¬ (nI 0 ≤ v ∧ v ≤ nI 9)) : xM G l yX7_setPrice cX7_setPrice 2 (Option.some Jvm.ClassFile.FieldType.int) [] 4 0 0 [.ref m, .int v] h (fun r h2 => r = some (.int (nI 0)) ∧ MW m A (va_up (va_up F 7 (nI 0)) 7 (nI 1)) n B h0 h2) xNo := by
  refine xcode_start (by decide) (Nat.le_of_ble_eq_true rfl) hl ?_
  intro E hE B0
  subst hE
  have C := B0.1
  show xW G E 2 0 0 h 0 [(0, .ref m), (1, .int v)] []
  refine x_aload_n C dX7_setPrice_0 rfl ?_
  refine x_iconst C (nI 0) dX7_setPrice_1 rfl ?_
  refine m_putI C dX7_setPrice_2 fl_X7_85_6 hM rfl rfl ⟨rfl, rfl⟩ (fun h hM => ?_)
  obtain ⟨F1, eF1, hM⟩ := MW.nameF hM
  refine x_aload_n C dX7_setPrice_5 rfl ?_
  refine x_iconst C (nI 1) dX7_setPrice_6 rfl ?_
  refine x_iload_n C dX7_setPrice_7 rfl ?_
  refine x_bipush C (nI 9) dX7_setPrice_8 rfl ?_
  have hU1 : F1 6 = nI u := by rw [eF1]; exact hU
  have hsc1 : F1 29 = bI sc := by rw [eF1]; exact hsc
  have h71 : F1 7 = 0 := by rw [eF1]; rfl
  refine x_callV (mc' := 0) (ms' := 0) C dX7_setPrice_10 (c_X7_setting1_f hl hM u hU1 hu8 sc hsc1 v h71 hv) mf_X7_setting q4077 q4079 qs124 (Or.inl hM.1) rfl rfl rfl (Nat.le_of_ble_eq_true rfl) (by decide) rfl rfl (fun r h hP => ?_) (fun _ _ _ hX => False.elim hX)
  obtain ⟨rfl, hM⟩ := hP
  obtain ⟨F2, eF2, hM⟩ := MW.nameF hM
  exact x_iret B0 dX7_setPrice_13 rfl (by have q_ := eF2.symm; subst q_; have q_ := eF1.symm; subst q_; exact ⟨rfl, hM⟩)
