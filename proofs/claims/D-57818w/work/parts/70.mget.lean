/-! ===== the reference: getters ===== -/
theorem c_X7_streetCount {G : xG} {l : Launch} (hl : l.stackTraces = false) {m : Nat} {A : Nat → Nat} {F n : Nat → Int32} {B : Nat → Nat → Int32} {h0 h : xAH} (hM : MW m A F n B h0 h)  : xM G l yX7_streetCount cX7_streetCount 1 (Option.some Jvm.ClassFile.FieldType.int) [] 1 0 0 [.ref m] h (fun r h2 => r = some (.int (n 6)) ∧ MW m A (va_up F 7 (nI 0)) n B h0 h2) xNo := by
  refine xcode_start (by decide) (Nat.le_of_ble_eq_true rfl) hl ?_
  intro E hE B0
  subst hE
  have C := B0.1
  show xW G E 1 0 0 h 0 [(0, .ref m)] []
  refine x_aload_n C dX7_streetCount_0 rfl ?_
  refine x_iconst C (nI 0) dX7_streetCount_1 rfl ?_
  refine m_putI C dX7_streetCount_2 fl_X7_85_6 hM rfl rfl ⟨rfl, rfl⟩ (fun h hM => ?_)
  obtain ⟨F1, eF1, hM⟩ := MW.nameF hM
  refine x_aload_n C dX7_streetCount_5 rfl ?_
  refine m_getN C dX7_streetCount_6 fl_X7_7_6 hM ?_
  refine x_bipush C (nI 6) dX7_streetCount_9 rfl ?_
  refine m_ldN C dX7_streetCount_11 hM (j := 6) rfl (by omega) ?_
  exact x_iret B0 dX7_streetCount_12 rfl (by have q_ := eF1.symm; subst q_; exact ⟨rfl, hM⟩)
theorem c_X7_gardenCount {G : xG} {l : Launch} (hl : l.stackTraces = false) {m : Nat} {A : Nat → Nat} {F n : Nat → Int32} {B : Nat → Nat → Int32} {h0 h : xAH} (hM : MW m A F n B h0 h)  : xM G l yX7_gardenCount cX7_gardenCount 1 (Option.some Jvm.ClassFile.FieldType.int) [] 1 0 0 [.ref m] h (fun r h2 => r = some (.int (n 7)) ∧ MW m A (va_up F 7 (nI 0)) n B h0 h2) xNo := by
  refine xcode_start (by decide) (Nat.le_of_ble_eq_true rfl) hl ?_
  intro E hE B0
  subst hE
  have C := B0.1
  show xW G E 1 0 0 h 0 [(0, .ref m)] []
  refine x_aload_n C dX7_gardenCount_0 rfl ?_
  refine x_iconst C (nI 0) dX7_gardenCount_1 rfl ?_
  refine m_putI C dX7_gardenCount_2 fl_X7_85_6 hM rfl rfl ⟨rfl, rfl⟩ (fun h hM => ?_)
  obtain ⟨F1, eF1, hM⟩ := MW.nameF hM
  refine x_aload_n C dX7_gardenCount_5 rfl ?_
  refine m_getN C dX7_gardenCount_6 fl_X7_7_6 hM ?_
  refine x_bipush C (nI 7) dX7_gardenCount_9 rfl ?_
  refine m_ldN C dX7_gardenCount_11 hM (j := 7) rfl (by omega) ?_
  exact x_iret B0 dX7_gardenCount_12 rfl (by have q_ := eF1.symm; subst q_; exact ⟨rfl, hM⟩)
theorem c_X7_cartCount {G : xG} {l : Launch} (hl : l.stackTraces = false) {m : Nat} {A : Nat → Nat} {F n : Nat → Int32} {B : Nat → Nat → Int32} {h0 h : xAH} (hM : MW m A F n B h0 h)  : xM G l yX7_cartCount cX7_cartCount 1 (Option.some Jvm.ClassFile.FieldType.int) [] 1 0 0 [.ref m] h (fun r h2 => r = some (.int (n 8)) ∧ MW m A (va_up F 7 (nI 0)) n B h0 h2) xNo := by
  refine xcode_start (by decide) (Nat.le_of_ble_eq_true rfl) hl ?_
  intro E hE B0
  subst hE
  have C := B0.1
  show xW G E 1 0 0 h 0 [(0, .ref m)] []
  refine x_aload_n C dX7_cartCount_0 rfl ?_
  refine x_iconst C (nI 0) dX7_cartCount_1 rfl ?_
  refine m_putI C dX7_cartCount_2 fl_X7_85_6 hM rfl rfl ⟨rfl, rfl⟩ (fun h hM => ?_)
  obtain ⟨F1, eF1, hM⟩ := MW.nameF hM
  refine x_aload_n C dX7_cartCount_5 rfl ?_
  refine m_getN C dX7_cartCount_6 fl_X7_7_6 hM ?_
  refine x_bipush C (nI 8) dX7_cartCount_9 rfl ?_
  refine m_ldN C dX7_cartCount_11 hM (j := 8) rfl (by omega) ?_
  exact x_iret B0 dX7_cartCount_12 rfl (by have q_ := eF1.symm; subst q_; exact ⟨rfl, hM⟩)
theorem c_X7_night {G : xG} {l : Launch} (hl : l.stackTraces = false) {m : Nat} {A : Nat → Nat} {F n : Nat → Int32} {B : Nat → Nat → Int32} {h0 h : xAH} (hM : MW m A F n B h0 h)  : xM G l yX7_night cX7_night 1 (Option.some Jvm.ClassFile.FieldType.int) [] 1 0 0 [.ref m] h (fun r h2 => r = some (.int (n 5)) ∧ MW m A (va_up F 7 (nI 0)) n B h0 h2) xNo := by
  refine xcode_start (by decide) (Nat.le_of_ble_eq_true rfl) hl ?_
  intro E hE B0
  subst hE
  have C := B0.1
  show xW G E 1 0 0 h 0 [(0, .ref m)] []
  refine x_aload_n C dX7_night_0 rfl ?_
  refine x_iconst C (nI 0) dX7_night_1 rfl ?_
  refine m_putI C dX7_night_2 fl_X7_85_6 hM rfl rfl ⟨rfl, rfl⟩ (fun h hM => ?_)
  obtain ⟨F1, eF1, hM⟩ := MW.nameF hM
  refine x_aload_n C dX7_night_5 rfl ?_
  refine m_getN C dX7_night_6 fl_X7_7_6 hM ?_
  refine x_iconst C (nI 5) dX7_night_9 rfl ?_
  refine m_ldN C dX7_night_10 hM (j := 5) rfl (by omega) ?_
  exact x_iret B0 dX7_night_11 rfl (by have q_ := eF1.symm; subst q_; exact ⟨rfl, hM⟩)
theorem c_X7_balance {G : xG} {l : Launch} (hl : l.stackTraces = false) {m : Nat} {A : Nat → Nat} {F n : Nat → Int32} {B : Nat → Nat → Int32} {h0 h : xAH} (hM : MW m A F n B h0 h)  : xM G l yX7_balance cX7_balance 1 (Option.some Jvm.ClassFile.FieldType.int) [] 1 0 0 [.ref m] h (fun r h2 => r = some (.int (n 9)) ∧ MW m A (va_up F 7 (nI 0)) n B h0 h2) xNo := by
  refine xcode_start (by decide) (Nat.le_of_ble_eq_true rfl) hl ?_
  intro E hE B0
  subst hE
  have C := B0.1
  show xW G E 1 0 0 h 0 [(0, .ref m)] []
  refine x_aload_n C dX7_balance_0 rfl ?_
  refine x_iconst C (nI 0) dX7_balance_1 rfl ?_
  refine m_putI C dX7_balance_2 fl_X7_85_6 hM rfl rfl ⟨rfl, rfl⟩ (fun h hM => ?_)
  obtain ⟨F1, eF1, hM⟩ := MW.nameF hM
  refine x_aload_n C dX7_balance_5 rfl ?_
  refine m_getN C dX7_balance_6 fl_X7_7_6 hM ?_
  refine x_bipush C (nI 9) dX7_balance_9 rfl ?_
  refine m_ldN C dX7_balance_11 hM (j := 9) rfl (by omega) ?_
  exact x_iret B0 dX7_balance_12 rfl (by have q_ := eF1.symm; subst q_; exact ⟨rfl, hM⟩)
theorem c_X7_price {G : xG} {l : Launch} (hl : l.stackTraces = false) {m : Nat} {A : Nat → Nat} {F n : Nat → Int32} {B : Nat → Nat → Int32} {h0 h : xAH} (hM : MW m A F n B h0 h)  : xM G l yX7_price cX7_price 1 (Option.some Jvm.ClassFile.FieldType.int) [] 1 0 0 [.ref m] h (fun r h2 => r = some (.int (n 1)) ∧ MW m A (va_up F 7 (nI 0)) n B h0 h2) xNo := by
  refine xcode_start (by decide) (Nat.le_of_ble_eq_true rfl) hl ?_
  intro E hE B0
  subst hE
  have C := B0.1
  show xW G E 1 0 0 h 0 [(0, .ref m)] []
  refine x_aload_n C dX7_price_0 rfl ?_
  refine x_iconst C (nI 0) dX7_price_1 rfl ?_
  refine m_putI C dX7_price_2 fl_X7_85_6 hM rfl rfl ⟨rfl, rfl⟩ (fun h hM => ?_)
  obtain ⟨F1, eF1, hM⟩ := MW.nameF hM
  refine x_aload_n C dX7_price_5 rfl ?_
  refine m_getN C dX7_price_6 fl_X7_7_6 hM ?_
  refine x_iconst C (nI 1) dX7_price_9 rfl ?_
  refine m_ldN C dX7_price_10 hM (j := 1) rfl (by omega) ?_
  exact x_iret B0 dX7_price_11 rfl (by have q_ := eF1.symm; subst q_; exact ⟨rfl, hM⟩)
theorem c_X7_deliveryCount {G : xG} {l : Launch} (hl : l.stackTraces = false) {m : Nat} {A : Nat → Nat} {F n : Nat → Int32} {B : Nat → Nat → Int32} {h0 h : xAH} (hM : MW m A F n B h0 h)  : xM G l yX7_deliveryCount cX7_deliveryCount 1 (Option.some Jvm.ClassFile.FieldType.int) [] 1 0 0 [.ref m] h (fun r h2 => r = some (.int (n 12)) ∧ MW m A (va_up F 7 (nI 0)) n B h0 h2) xNo := by
  refine xcode_start (by decide) (Nat.le_of_ble_eq_true rfl) hl ?_
  intro E hE B0
  subst hE
  have C := B0.1
  show xW G E 1 0 0 h 0 [(0, .ref m)] []
  refine x_aload_n C dX7_deliveryCount_0 rfl ?_
  refine x_iconst C (nI 0) dX7_deliveryCount_1 rfl ?_
  refine m_putI C dX7_deliveryCount_2 fl_X7_85_6 hM rfl rfl ⟨rfl, rfl⟩ (fun h hM => ?_)
  obtain ⟨F1, eF1, hM⟩ := MW.nameF hM
  refine x_aload_n C dX7_deliveryCount_5 rfl ?_
  refine m_getN C dX7_deliveryCount_6 fl_X7_7_6 hM ?_
  refine x_bipush C (nI 12) dX7_deliveryCount_9 rfl ?_
  refine m_ldN C dX7_deliveryCount_11 hM (j := 12) rfl (by omega) ?_
  exact x_iret B0 dX7_deliveryCount_12 rfl (by have q_ := eF1.symm; subst q_; exact ⟨rfl, hM⟩)
theorem c_X7_lateCount {G : xG} {l : Launch} (hl : l.stackTraces = false) {m : Nat} {A : Nat → Nat} {F n : Nat → Int32} {B : Nat → Nat → Int32} {h0 h : xAH} (hM : MW m A F n B h0 h)  : xM G l yX7_lateCount cX7_lateCount 1 (Option.some Jvm.ClassFile.FieldType.int) [] 1 0 0 [.ref m] h (fun r h2 => r = some (.int (n 13)) ∧ MW m A (va_up F 7 (nI 0)) n B h0 h2) xNo := by
  refine xcode_start (by decide) (Nat.le_of_ble_eq_true rfl) hl ?_
  intro E hE B0
  subst hE
  have C := B0.1
  show xW G E 1 0 0 h 0 [(0, .ref m)] []
  refine x_aload_n C dX7_lateCount_0 rfl ?_
  refine x_iconst C (nI 0) dX7_lateCount_1 rfl ?_
  refine m_putI C dX7_lateCount_2 fl_X7_85_6 hM rfl rfl ⟨rfl, rfl⟩ (fun h hM => ?_)
  obtain ⟨F1, eF1, hM⟩ := MW.nameF hM
  refine x_aload_n C dX7_lateCount_5 rfl ?_
  refine m_getN C dX7_lateCount_6 fl_X7_7_6 hM ?_
  refine x_bipush C (nI 13) dX7_lateCount_9 rfl ?_
  refine m_ldN C dX7_lateCount_11 hM (j := 13) rfl (by omega) ?_
  exact x_iret B0 dX7_lateCount_12 rfl (by have q_ := eF1.symm; subst q_; exact ⟨rfl, hM⟩)
theorem c_X7_undoCount {G : xG} {l : Launch} (hl : l.stackTraces = false) {m : Nat} {A : Nat → Nat} {F n : Nat → Int32} {B : Nat → Nat → Int32} {h0 h : xAH} (hM : MW m A F n B h0 h)  : xM G l yX7_undoCount cX7_undoCount 1 (Option.some Jvm.ClassFile.FieldType.int) [] 1 0 0 [.ref m] h (fun r h2 => r = some (.int (F 6)) ∧ MW m A (va_up F 7 (nI 0)) n B h0 h2) xNo := by
  refine xcode_start (by decide) (Nat.le_of_ble_eq_true rfl) hl ?_
  intro E hE B0
  subst hE
  have C := B0.1
  show xW G E 1 0 0 h 0 [(0, .ref m)] []
  refine x_aload_n C dX7_undoCount_0 rfl ?_
  refine x_iconst C (nI 0) dX7_undoCount_1 rfl ?_
  refine m_putI C dX7_undoCount_2 fl_X7_85_6 hM rfl rfl ⟨rfl, rfl⟩ (fun h hM => ?_)
  obtain ⟨F1, eF1, hM⟩ := MW.nameF hM
  refine x_aload_n C dX7_undoCount_5 rfl ?_
  refine m_getI C dX7_undoCount_6 fl_X7_282_6 hM rfl ?_
  exact x_iret B0 dX7_undoCount_9 rfl (by have q_ := eF1.symm; subst q_; exact ⟨rfl, hM⟩)
theorem c_X7_errorCode {G : xG} {l : Launch} (hl : l.stackTraces = false) {m : Nat} {A : Nat → Nat} {F n : Nat → Int32} {B : Nat → Nat → Int32} {h0 h : xAH} (hM : MW m A F n B h0 h)  : xM G l yX7_errorCode cX7_errorCode 1 (Option.some Jvm.ClassFile.FieldType.int) [] 1 0 0 [.ref m] h (fun r h2 => r = some (.int (F 11)) ∧ MW m A (va_up F 7 (nI 0)) n B h0 h2) xNo := by
  refine xcode_start (by decide) (Nat.le_of_ble_eq_true rfl) hl ?_
  intro E hE B0
  subst hE
  have C := B0.1
  show xW G E 1 0 0 h 0 [(0, .ref m)] []
  refine x_aload_n C dX7_errorCode_0 rfl ?_
  refine x_iconst C (nI 0) dX7_errorCode_1 rfl ?_
  refine m_putI C dX7_errorCode_2 fl_X7_85_6 hM rfl rfl ⟨rfl, rfl⟩ (fun h hM => ?_)
  obtain ⟨F1, eF1, hM⟩ := MW.nameF hM
  refine x_aload_n C dX7_errorCode_5 rfl ?_
  refine m_getI C dX7_errorCode_6 fl_X7_180_6 hM rfl ?_
  exact x_iret B0 dX7_errorCode_9 rfl (by have q_ := eF1.symm; subst q_; exact ⟨rfl, hM⟩)
theorem c_X7_errorPosition {G : xG} {l : Launch} (hl : l.stackTraces = false) {m : Nat} {A : Nat → Nat} {F n : Nat → Int32} {B : Nat → Nat → Int32} {h0 h : xAH} (hM : MW m A F n B h0 h)  : xM G l yX7_errorPosition cX7_errorPosition 1 (Option.some Jvm.ClassFile.FieldType.int) [] 1 0 0 [.ref m] h (fun r h2 => r = some (.int (F 12)) ∧ MW m A (va_up F 7 (nI 0)) n B h0 h2) xNo := by
  refine xcode_start (by decide) (Nat.le_of_ble_eq_true rfl) hl ?_
  intro E hE B0
  subst hE
  have C := B0.1
  show xW G E 1 0 0 h 0 [(0, .ref m)] []
  refine x_aload_n C dX7_errorPosition_0 rfl ?_
  refine x_iconst C (nI 0) dX7_errorPosition_1 rfl ?_
  refine m_putI C dX7_errorPosition_2 fl_X7_85_6 hM rfl rfl ⟨rfl, rfl⟩ (fun h hM => ?_)
  obtain ⟨F1, eF1, hM⟩ := MW.nameF hM
  refine x_aload_n C dX7_errorPosition_5 rfl ?_
  refine m_getI C dX7_errorPosition_6 fl_X7_36_6 hM rfl ?_
  exact x_iret B0 dX7_errorPosition_9 rfl (by have q_ := eF1.symm; subst q_; exact ⟨rfl, hM⟩)
theorem c_X7_thrown {G : xG} {l : Launch} (hl : l.stackTraces = false) {m : Nat} {A : Nat → Nat} {F n : Nat → Int32} {B : Nat → Nat → Int32} {h0 h : xAH} (hM : MW m A F n B h0 h)  : xM G l yX7_thrown cX7_thrown 1 (Option.some Jvm.ClassFile.FieldType.int) [] 1 0 0 [.ref m] h (fun r h2 => r = some (.int (F 7)) ∧ MW m A F n B h0 h2) xNo := by
  refine xcode_start (by decide) (Nat.le_of_ble_eq_true rfl) hl ?_
  intro E hE B0
  subst hE
  have C := B0.1
  show xW G E 1 0 0 h 0 [(0, .ref m)] []
  refine x_aload_n C dX7_thrown_0 rfl ?_
  refine m_getI C dX7_thrown_1 fl_X7_85_6 hM rfl ?_
  exact x_iret B0 dX7_thrown_4 rfl (by exact ⟨rfl, hM⟩)
theorem c_X7_wind {G : xG} {l : Launch} (hl : l.stackTraces = false) {m : Nat} {A : Nat → Nat} {F n : Nat → Int32} {B : Nat → Nat → Int32} {h0 h : xAH} (hM : MW m A F n B h0 h) {S Gn Cn T : Nat} (hI : Ginv n S Gn Cn T)  : xM G l yX7_wind cX7_wind 1 (Option.some Jvm.ClassFile.FieldType.int) [] 2 0 0 [.ref m] h (fun r h2 => r = some (.int (nI (sp_wind n))) ∧ MW m A (va_up F 7 (nI 0)) n B h0 h2) xNo := by
  refine xcode_start (by decide) (Nat.le_of_ble_eq_true rfl) hl ?_
  intro E hE B0
  subst hE
  have C := B0.1
  show xW G E 1 0 0 h 0 [(0, .ref m)] []
  refine x_aload_n C dX7_wind_0 rfl ?_
  refine x_iconst C (nI 0) dX7_wind_1 rfl ?_
  refine m_putI C dX7_wind_2 fl_X7_85_6 hM rfl rfl ⟨rfl, rfl⟩ (fun h hM => ?_)
  obtain ⟨F1, eF1, hM⟩ := MW.nameF hM
  refine x_aload_n C dX7_wind_5 rfl ?_
  refine x_callV (mc' := 0) (ms' := 0) C dX7_wind_6 (c_X7_blows hl hM hI) mf_X7_blows q4061 q4063 qs120 (Or.inl hM.1) rfl rfl rfl (Nat.le_of_ble_eq_true rfl) (by decide) rfl rfl (fun r h hP => ?_) (fun _ _ _ hX => False.elim hX)
  obtain ⟨rfl, hM⟩ := hP
  exact x_iret B0 dX7_wind_9 rfl (by have q_ := eF1.symm; subst q_; exact ⟨rfl, hM⟩)
theorem c_X7_leadingGarden {G : xG} {l : Launch} (hl : l.stackTraces = false) {m : Nat} {A : Nat → Nat} {F n : Nat → Int32} {B : Nat → Nat → Int32} {h0 h : xAH} (hM : MW m A F n B h0 h) {S Gn Cn T : Nat} (hI : Ginv n S Gn Cn T)  : xM G l yX7_leadingGarden cX7_leadingGarden 1 (Option.some Jvm.ClassFile.FieldType.int) [] 3 0 0 [.ref m] h (fun r h2 => r = some (.int (oI (sp_best n Gn))) ∧ MW m A (va_up F 7 (nI 0)) n B h0 h2) xNo := by
  refine xcode_start (by decide) (Nat.le_of_ble_eq_true rfl) hl ?_
  intro E hE B0
  subst hE
  have C := B0.1
  show xW G E 1 0 0 h 0 [(0, .ref m)] []
  refine x_aload_n C dX7_leadingGarden_0 rfl ?_
  refine x_iconst C (nI 0) dX7_leadingGarden_1 rfl ?_
  refine m_putI C dX7_leadingGarden_2 fl_X7_85_6 hM rfl rfl ⟨rfl, rfl⟩ (fun h hM => ?_)
  obtain ⟨F1, eF1, hM⟩ := MW.nameF hM
  refine x_aload_n C dX7_leadingGarden_5 rfl ?_
  refine x_callV (mc' := 0) (ms' := 0) C dX7_leadingGarden_6 (c_X7_leads hl hM hI) mf_X7_leads q4073 q4075 qs123 (Or.inl hM.1) rfl rfl rfl (Nat.le_of_ble_eq_true rfl) (by decide) rfl rfl (fun r h hP => ?_) (fun _ _ _ hX => False.elim hX)
  obtain ⟨rfl, hM⟩ := hP
  exact x_iret B0 dX7_leadingGarden_9 rfl (by have q_ := eF1.symm; subst q_; exact ⟨rfl, hM⟩)
theorem c_X7_streetAt {G : xG} {l : Launch} (hl : l.stackTraces = false) {m : Nat} {A : Nat → Nat} {F n : Nat → Int32} {B : Nat → Nat → Int32} {h0 h : xAH} (hM : MW m A F n B h0 h) {S Gn Cn T : Nat} (hI : Ginv n S Gn Cn T) (x y : Int32) : xM G l yX7_streetAt cX7_streetAt 3 (Option.some Jvm.ClassFile.FieldType.int) [] 3 0 0 [.ref m, .int x, .int y] h (fun r h2 => r = some (.int (oI (sp_on2 n 16 x y S 0))) ∧ MW m A (va_up F 7 (nI 0)) n B h0 h2) xNo := by
  refine xcode_start (by decide) (Nat.le_of_ble_eq_true rfl) hl ?_
  intro E hE B0
  subst hE
  have C := B0.1
  have hS8 := hI.S8; have hG6 := hI.G6; have hC6 := hI.C6; have hT := hI.T0
  show xW G E 3 0 0 h 0 [(0, .ref m), (1, .int x), (2, .int y)] []
  refine x_aload_n C dX7_streetAt_0 rfl ?_
  refine x_iconst C (nI 0) dX7_streetAt_1 rfl ?_
  refine m_putI C dX7_streetAt_2 fl_X7_85_6 hM rfl rfl ⟨rfl, rfl⟩ (fun h hM => ?_)
  obtain ⟨F1, eF1, hM⟩ := MW.nameF hM
  refine x_aload_n C dX7_streetAt_5 rfl ?_
  refine x_iload_n C dX7_streetAt_6 rfl ?_
  refine x_iload_n C dX7_streetAt_7 rfl ?_
  refine x_callV (mc' := 0) (ms' := 0) C dX7_streetAt_8 (c_X7_streetOn hl hM S (by have q_ := eF1.symm; subst q_; exact hI.s) (by omega) x y) mf_X7_streetOn q3770 q3772 qs82 (Or.inl hM.1) rfl rfl rfl (Nat.le_of_ble_eq_true rfl) (by decide) rfl rfl (fun r h hP => ?_) (fun _ _ _ hX => False.elim hX)
  obtain ⟨rfl, hM⟩ := hP
  exact x_iret B0 dX7_streetAt_11 rfl (by have q_ := eF1.symm; subst q_; exact ⟨rfl, hM⟩)
theorem c_X7_askedS_t {G : xG} {l : Launch} (hl : l.stackTraces = false) {m : Nat} {A : Nat → Nat} {F n : Nat → Int32} {B : Nat → Nat → Int32} {h0 h : xAH} (hM : MW m A F n B h0 h) {S Gn Cn T : Nat} (hI : Ginv n S Gn Cn T) (i w : Nat) (hi : i < S) (hw : w < 9) : xM G l yX7_askedS cX7_askedS 3 (Option.some Jvm.ClassFile.FieldType.int) [] 3 0 0 [.ref m, .int (nI i), .int (nI w)] h (fun r h2 => r = some (.int (n (16 + 9 * i + w))) ∧ MW m A (va_up F 7 (nI 0)) n B h0 h2) xNo := by
  refine xcode_start (by decide) (Nat.le_of_ble_eq_true rfl) hl ?_
  intro E hE B0
  subst hE
  have C := B0.1
  have hS8 := hI.S8; have hG6 := hI.G6; have hC6 := hI.C6; have hT := hI.T0
  show xW G E 3 0 0 h 0 [(0, .ref m), (1, .int (nI i)), (2, .int (nI w))] []
  refine x_aload_n C dX7_askedS_0 rfl ?_
  refine x_iconst C (nI 0) dX7_askedS_1 rfl ?_
  refine m_putI C dX7_askedS_2 fl_X7_85_6 hM rfl rfl ⟨rfl, rfl⟩ (fun h hM => ?_)
  obtain ⟨F1, eF1, hM⟩ := MW.nameF hM
  refine x_aload_n C dX7_askedS_5 rfl ?_
  refine x_aload_n C dX7_askedS_6 rfl ?_
  refine x_iload_n C dX7_askedS_7 rfl ?_
  refine x_callV (mc' := 0) (ms' := 0) C dX7_askedS_8 (c_X7_isStreet hl hM hI (nI i)) mf_X7_isStreet q3979 q3981 qs100 (Or.inl hM.1) rfl rfl rfl (Nat.le_of_ble_eq_true rfl) (by decide) rfl rfl (fun r h hP => ?_) (fun _ _ _ hX => False.elim hX)
  obtain ⟨rfl, hM⟩ := hP
  refine x_toi (nI 1) (bI_t (isIn_nI hi (by omega))) ?_
  refine x_iconst C (nI 1) dX7_askedS_11 rfl ?_
  refine x_callV (mc' := 0) (ms' := 0) C dX7_askedS_12 (c_X7_right_t hl hM (nI 1) (by have q_ := eF1.symm; subst q_; rfl)) mf_X7_right q3901 q3903 qs87 (Or.inl hM.1) rfl rfl rfl (Nat.le_of_ble_eq_true rfl) (by decide) rfl rfl (fun r h hP => ?_) (fun _ _ _ hX => False.elim hX)
  obtain ⟨rfl, hM⟩ := hP
  refine x_if_eq C 27 dX7_askedS_15 (by decide) (fun c_15 => ?_) (fun c_15 => ?_)
  · exact absurd c_15 (by decide)
  · skip
    have c_15 := (xn_eqF 1 0 c_15 (by omega) (by omega))
    refine x_aload_n C dX7_askedS_18 rfl ?_
    refine x_iload_n C dX7_askedS_19 rfl ?_
    refine x_iload_n C dX7_askedS_20 rfl ?_
    refine x_callV (mc' := 0) (ms' := 0) C dX7_askedS_21 (c_X7_ofS hl hM i w (by omega)) mf_X7_ofS q3754 q3756 qs78 (Or.inl hM.1) rfl rfl rfl (Nat.le_of_ble_eq_true rfl) (by decide) rfl rfl (fun r h hP => ?_) (fun _ _ _ hX => False.elim hX)
    obtain ⟨rfl, hM⟩ := hP
    refine x_goto C 28 dX7_askedS_24 (by decide) ?_
    exact x_iret B0 dX7_askedS_28 rfl (by have q_ := eF1.symm; subst q_; exact ⟨rfl, hM⟩)
theorem c_X7_askedS_f {G : xG} {l : Launch} (hl : l.stackTraces = false) {m : Nat} {A : Nat → Nat} {F n : Nat → Int32} {B : Nat → Nat → Int32} {h0 h : xAH} (hM : MW m A F n B h0 h) {S Gn Cn T : Nat} (hI : Ginv n S Gn Cn T) (x : Int32) (w : Nat) (hx : ¬ isIn x S) : xM G l yX7_askedS cX7_askedS 3 (Option.some Jvm.ClassFile.FieldType.int) [] 3 0 0 [.ref m, .int x, .int (nI w)] h (fun r h2 => r = some (.int (nI 0)) ∧ MW m A (va_up (va_up F 7 (nI 0)) 7 (nI 1)) n B h0 h2) xNo := by
  refine xcode_start (by decide) (Nat.le_of_ble_eq_true rfl) hl ?_
  intro E hE B0
  subst hE
  have C := B0.1
  have hS8 := hI.S8; have hG6 := hI.G6; have hC6 := hI.C6; have hT := hI.T0
  show xW G E 3 0 0 h 0 [(0, .ref m), (1, .int x), (2, .int (nI w))] []
  refine x_aload_n C dX7_askedS_0 rfl ?_
  refine x_iconst C (nI 0) dX7_askedS_1 rfl ?_
  refine m_putI C dX7_askedS_2 fl_X7_85_6 hM rfl rfl ⟨rfl, rfl⟩ (fun h hM => ?_)
  obtain ⟨F1, eF1, hM⟩ := MW.nameF hM
  refine x_aload_n C dX7_askedS_5 rfl ?_
  refine x_aload_n C dX7_askedS_6 rfl ?_
  refine x_iload_n C dX7_askedS_7 rfl ?_
  refine x_callV (mc' := 0) (ms' := 0) C dX7_askedS_8 (c_X7_isStreet hl hM hI x) mf_X7_isStreet q3979 q3981 qs100 (Or.inl hM.1) rfl rfl rfl (Nat.le_of_ble_eq_true rfl) (by decide) rfl rfl (fun r h hP => ?_) (fun _ _ _ hX => False.elim hX)
  obtain ⟨rfl, hM⟩ := hP
  refine x_toi (nI 0) (bI_f hx) ?_
  refine x_iconst C (nI 1) dX7_askedS_11 rfl ?_
  refine x_callV (mc' := 0) (ms' := 0) C dX7_askedS_12 (c_X7_right_f hl hM (nI 1) (by have q_ := eF1.symm; subst q_; rfl) (by decide)) mf_X7_right q3901 q3903 qs87 (Or.inl hM.1) rfl rfl rfl (Nat.le_of_ble_eq_true rfl) (by decide) rfl rfl (fun r h hP => ?_) (fun _ _ _ hX => False.elim hX)
  obtain ⟨rfl, hM⟩ := hP
  obtain ⟨F2, eF2, hM⟩ := MW.nameF hM
  refine x_if_eq C 27 dX7_askedS_15 (by decide) (fun c_15 => ?_) (fun c_15 => ?_)
  · skip
    have c_15 := (xn_eqT 0 0 c_15 (by omega) (by omega))
    refine x_iconst C (nI 0) dX7_askedS_27 rfl ?_
    exact x_iret B0 dX7_askedS_28 rfl (by have q_ := eF2.symm; subst q_; have q_ := eF1.symm; subst q_; exact ⟨rfl, hM⟩)
  · exact absurd c_15 (by decide)
theorem c_X7_askedG_t {G : xG} {l : Launch} (hl : l.stackTraces = false) {m : Nat} {A : Nat → Nat} {F n : Nat → Int32} {B : Nat → Nat → Int32} {h0 h : xAH} (hM : MW m A F n B h0 h) {S Gn Cn T : Nat} (hI : Ginv n S Gn Cn T) (i w : Nat) (hi : i < Gn) (hw : w < 9) : xM G l yX7_askedG cX7_askedG 3 (Option.some Jvm.ClassFile.FieldType.int) [] 3 0 0 [.ref m, .int (nI i), .int (nI w)] h (fun r h2 => r = some (.int (n (88 + 9 * i + w))) ∧ MW m A (va_up F 7 (nI 0)) n B h0 h2) xNo := by
  refine xcode_start (by decide) (Nat.le_of_ble_eq_true rfl) hl ?_
  intro E hE B0
  subst hE
  have C := B0.1
  have hS8 := hI.S8; have hG6 := hI.G6; have hC6 := hI.C6; have hT := hI.T0
  show xW G E 3 0 0 h 0 [(0, .ref m), (1, .int (nI i)), (2, .int (nI w))] []
  refine x_aload_n C dX7_askedG_0 rfl ?_
  refine x_iconst C (nI 0) dX7_askedG_1 rfl ?_
  refine m_putI C dX7_askedG_2 fl_X7_85_6 hM rfl rfl ⟨rfl, rfl⟩ (fun h hM => ?_)
  obtain ⟨F1, eF1, hM⟩ := MW.nameF hM
  refine x_aload_n C dX7_askedG_5 rfl ?_
  refine x_aload_n C dX7_askedG_6 rfl ?_
  refine x_iload_n C dX7_askedG_7 rfl ?_
  refine x_callV (mc' := 0) (ms' := 0) C dX7_askedG_8 (c_X7_isGarden hl hM hI (nI i)) mf_X7_isGarden q3983 q3985 qs101 (Or.inl hM.1) rfl rfl rfl (Nat.le_of_ble_eq_true rfl) (by decide) rfl rfl (fun r h hP => ?_) (fun _ _ _ hX => False.elim hX)
  obtain ⟨rfl, hM⟩ := hP
  refine x_toi (nI 1) (bI_t (isIn_nI hi (by omega))) ?_
  refine x_iconst C (nI 1) dX7_askedG_11 rfl ?_
  refine x_callV (mc' := 0) (ms' := 0) C dX7_askedG_12 (c_X7_right_t hl hM (nI 1) (by have q_ := eF1.symm; subst q_; rfl)) mf_X7_right q3901 q3903 qs87 (Or.inl hM.1) rfl rfl rfl (Nat.le_of_ble_eq_true rfl) (by decide) rfl rfl (fun r h hP => ?_) (fun _ _ _ hX => False.elim hX)
  obtain ⟨rfl, hM⟩ := hP
  refine x_if_eq C 27 dX7_askedG_15 (by decide) (fun c_15 => ?_) (fun c_15 => ?_)
  · exact absurd c_15 (by decide)
  · skip
    have c_15 := (xn_eqF 1 0 c_15 (by omega) (by omega))
    refine x_aload_n C dX7_askedG_18 rfl ?_
    refine x_iload_n C dX7_askedG_19 rfl ?_
    refine x_iload_n C dX7_askedG_20 rfl ?_
    refine x_callV (mc' := 0) (ms' := 0) C dX7_askedG_21 (c_X7_ofG hl hM i w (by omega)) mf_X7_ofG q3762 q3764 qs80 (Or.inl hM.1) rfl rfl rfl (Nat.le_of_ble_eq_true rfl) (by decide) rfl rfl (fun r h hP => ?_) (fun _ _ _ hX => False.elim hX)
    obtain ⟨rfl, hM⟩ := hP
    refine x_goto C 28 dX7_askedG_24 (by decide) ?_
    exact x_iret B0 dX7_askedG_28 rfl (by have q_ := eF1.symm; subst q_; exact ⟨rfl, hM⟩)
theorem c_X7_askedG_f {G : xG} {l : Launch} (hl : l.stackTraces = false) {m : Nat} {A : Nat → Nat} {F n : Nat → Int32} {B : Nat → Nat → Int32} {h0 h : xAH} (hM : MW m A F n B h0 h) {S Gn Cn T : Nat} (hI : Ginv n S Gn Cn T) (x : Int32) (w : Nat) (hx : ¬ isIn x Gn) : xM G l yX7_askedG cX7_askedG 3 (Option.some Jvm.ClassFile.FieldType.int) [] 3 0 0 [.ref m, .int x, .int (nI w)] h (fun r h2 => r = some (.int (nI 0)) ∧ MW m A (va_up (va_up F 7 (nI 0)) 7 (nI 1)) n B h0 h2) xNo := by
  refine xcode_start (by decide) (Nat.le_of_ble_eq_true rfl) hl ?_
  intro E hE B0
  subst hE
  have C := B0.1
  have hS8 := hI.S8; have hG6 := hI.G6; have hC6 := hI.C6; have hT := hI.T0
  show xW G E 3 0 0 h 0 [(0, .ref m), (1, .int x), (2, .int (nI w))] []
  refine x_aload_n C dX7_askedG_0 rfl ?_
  refine x_iconst C (nI 0) dX7_askedG_1 rfl ?_
  refine m_putI C dX7_askedG_2 fl_X7_85_6 hM rfl rfl ⟨rfl, rfl⟩ (fun h hM => ?_)
  obtain ⟨F1, eF1, hM⟩ := MW.nameF hM
  refine x_aload_n C dX7_askedG_5 rfl ?_
  refine x_aload_n C dX7_askedG_6 rfl ?_
  refine x_iload_n C dX7_askedG_7 rfl ?_
  refine x_callV (mc' := 0) (ms' := 0) C dX7_askedG_8 (c_X7_isGarden hl hM hI x) mf_X7_isGarden q3983 q3985 qs101 (Or.inl hM.1) rfl rfl rfl (Nat.le_of_ble_eq_true rfl) (by decide) rfl rfl (fun r h hP => ?_) (fun _ _ _ hX => False.elim hX)
  obtain ⟨rfl, hM⟩ := hP
  refine x_toi (nI 0) (bI_f hx) ?_
  refine x_iconst C (nI 1) dX7_askedG_11 rfl ?_
  refine x_callV (mc' := 0) (ms' := 0) C dX7_askedG_12 (c_X7_right_f hl hM (nI 1) (by have q_ := eF1.symm; subst q_; rfl) (by decide)) mf_X7_right q3901 q3903 qs87 (Or.inl hM.1) rfl rfl rfl (Nat.le_of_ble_eq_true rfl) (by decide) rfl rfl (fun r h hP => ?_) (fun _ _ _ hX => False.elim hX)
  obtain ⟨rfl, hM⟩ := hP
  obtain ⟨F2, eF2, hM⟩ := MW.nameF hM
  refine x_if_eq C 27 dX7_askedG_15 (by decide) (fun c_15 => ?_) (fun c_15 => ?_)
  · skip
    have c_15 := (xn_eqT 0 0 c_15 (by omega) (by omega))
    refine x_iconst C (nI 0) dX7_askedG_27 rfl ?_
    exact x_iret B0 dX7_askedG_28 rfl (by have q_ := eF2.symm; subst q_; have q_ := eF1.symm; subst q_; exact ⟨rfl, hM⟩)
  · exact absurd c_15 (by decide)
theorem c_X7_bins_t {G : xG} {l : Launch} (hl : l.stackTraces = false) {m : Nat} {A : Nat → Nat} {F n : Nat → Int32} {B : Nat → Nat → Int32} {h0 h : xAH} (hM : MW m A F n B h0 h) {S Gn Cn T : Nat} (hI : Ginv n S Gn Cn T) (i : Nat) (hi : i < S) : xM G l yX7_bins cX7_bins 2 (Option.some Jvm.ClassFile.FieldType.int) [] 4 0 0 [.ref m, .int (nI i)] h (fun r h2 => r = some (.int (n (16 + 9 * i + 5))) ∧ MW m A (va_up F 7 (nI 0)) n B h0 h2) xNo := by
  refine xcode_start (by decide) (Nat.le_of_ble_eq_true rfl) hl ?_
  intro E hE B0
  subst hE
  have C := B0.1
  have hS8 := hI.S8; have hG6 := hI.G6; have hC6 := hI.C6; have hT := hI.T0
  show xW G E 2 0 0 h 0 [(0, .ref m), (1, .int (nI i))] []
  refine x_aload_n C dX7_bins_0 rfl ?_
  refine x_iload_n C dX7_bins_1 rfl ?_
  refine x_iconst C (nI 5) dX7_bins_2 rfl ?_
  refine x_callV (mc' := 0) (ms' := 0) C dX7_bins_3 (c_X7_askedS_t hl hM hI i 5 (by omega) (by decide)) mf_X7_askedS q4101 q4103 qs126 (Or.inl hM.1) rfl rfl rfl (Nat.le_of_ble_eq_true rfl) (by decide) rfl rfl (fun r h hP => ?_) (fun _ _ _ hX => False.elim hX)
  obtain ⟨rfl, hM⟩ := hP
  obtain ⟨F1, eF1, hM⟩ := MW.nameF hM
  exact x_iret B0 dX7_bins_6 rfl (by have q_ := eF1.symm; subst q_; exact ⟨rfl, hM⟩)
theorem c_X7_bins_f {G : xG} {l : Launch} (hl : l.stackTraces = false) {m : Nat} {A : Nat → Nat} {F n : Nat → Int32} {B : Nat → Nat → Int32} {h0 h : xAH} (hM : MW m A F n B h0 h) {S Gn Cn T : Nat} (hI : Ginv n S Gn Cn T) (x : Int32) (hx : ¬ isIn x S) : xM G l yX7_bins cX7_bins 2 (Option.some Jvm.ClassFile.FieldType.int) [] 4 0 0 [.ref m, .int x] h (fun r h2 => r = some (.int (nI 0)) ∧ MW m A (va_up (va_up F 7 (nI 0)) 7 (nI 1)) n B h0 h2) xNo := by
  refine xcode_start (by decide) (Nat.le_of_ble_eq_true rfl) hl ?_
  intro E hE B0
  subst hE
  have C := B0.1
  have hS8 := hI.S8; have hG6 := hI.G6; have hC6 := hI.C6; have hT := hI.T0
  show xW G E 2 0 0 h 0 [(0, .ref m), (1, .int x)] []
  refine x_aload_n C dX7_bins_0 rfl ?_
  refine x_iload_n C dX7_bins_1 rfl ?_
  refine x_iconst C (nI 5) dX7_bins_2 rfl ?_
  refine x_callV (mc' := 0) (ms' := 0) C dX7_bins_3 (c_X7_askedS_f hl hM hI x 5 hx) mf_X7_askedS q4101 q4103 qs126 (Or.inl hM.1) rfl rfl rfl (Nat.le_of_ble_eq_true rfl) (by decide) rfl rfl (fun r h hP => ?_) (fun _ _ _ hX => False.elim hX)
  obtain ⟨rfl, hM⟩ := hP
  obtain ⟨F1, eF1, hM⟩ := MW.nameF hM
  exact x_iret B0 dX7_bins_6 rfl (by have q_ := eF1.symm; subst q_; exact ⟨rfl, hM⟩)
theorem c_X7_spilled_t {G : xG} {l : Launch} (hl : l.stackTraces = false) {m : Nat} {A : Nat → Nat} {F n : Nat → Int32} {B : Nat → Nat → Int32} {h0 h : xAH} (hM : MW m A F n B h0 h) {S Gn Cn T : Nat} (hI : Ginv n S Gn Cn T) (i : Nat) (hi : i < S) : xM G l yX7_spilled cX7_spilled 2 (Option.some Jvm.ClassFile.FieldType.int) [] 4 0 0 [.ref m, .int (nI i)] h (fun r h2 => r = some (.int (n (16 + 9 * i + 6))) ∧ MW m A (va_up F 7 (nI 0)) n B h0 h2) xNo := by
  refine xcode_start (by decide) (Nat.le_of_ble_eq_true rfl) hl ?_
  intro E hE B0
  subst hE
  have C := B0.1
  have hS8 := hI.S8; have hG6 := hI.G6; have hC6 := hI.C6; have hT := hI.T0
  show xW G E 2 0 0 h 0 [(0, .ref m), (1, .int (nI i))] []
  refine x_aload_n C dX7_spilled_0 rfl ?_
  refine x_iload_n C dX7_spilled_1 rfl ?_
  refine x_bipush C (nI 6) dX7_spilled_2 rfl ?_
  refine x_callV (mc' := 0) (ms' := 0) C dX7_spilled_4 (c_X7_askedS_t hl hM hI i 6 (by omega) (by decide)) mf_X7_askedS q4101 q4103 qs126 (Or.inl hM.1) rfl rfl rfl (Nat.le_of_ble_eq_true rfl) (by decide) rfl rfl (fun r h hP => ?_) (fun _ _ _ hX => False.elim hX)
  obtain ⟨rfl, hM⟩ := hP
  obtain ⟨F1, eF1, hM⟩ := MW.nameF hM
  exact x_iret B0 dX7_spilled_7 rfl (by have q_ := eF1.symm; subst q_; exact ⟨rfl, hM⟩)
theorem c_X7_spilled_f {G : xG} {l : Launch} (hl : l.stackTraces = false) {m : Nat} {A : Nat → Nat} {F n : Nat → Int32} {B : Nat → Nat → Int32} {h0 h : xAH} (hM : MW m A F n B h0 h) {S Gn Cn T : Nat} (hI : Ginv n S Gn Cn T) (x : Int32) (hx : ¬ isIn x S) : xM G l yX7_spilled cX7_spilled 2 (Option.some Jvm.ClassFile.FieldType.int) [] 4 0 0 [.ref m, .int x] h (fun r h2 => r = some (.int (nI 0)) ∧ MW m A (va_up (va_up F 7 (nI 0)) 7 (nI 1)) n B h0 h2) xNo := by
  refine xcode_start (by decide) (Nat.le_of_ble_eq_true rfl) hl ?_
  intro E hE B0
  subst hE
  have C := B0.1
  have hS8 := hI.S8; have hG6 := hI.G6; have hC6 := hI.C6; have hT := hI.T0
  show xW G E 2 0 0 h 0 [(0, .ref m), (1, .int x)] []
  refine x_aload_n C dX7_spilled_0 rfl ?_
  refine x_iload_n C dX7_spilled_1 rfl ?_
  refine x_bipush C (nI 6) dX7_spilled_2 rfl ?_
  refine x_callV (mc' := 0) (ms' := 0) C dX7_spilled_4 (c_X7_askedS_f hl hM hI x 6 hx) mf_X7_askedS q4101 q4103 qs126 (Or.inl hM.1) rfl rfl rfl (Nat.le_of_ble_eq_true rfl) (by decide) rfl rfl (fun r h hP => ?_) (fun _ _ _ hX => False.elim hX)
  obtain ⟨rfl, hM⟩ := hP
  obtain ⟨F1, eF1, hM⟩ := MW.nameF hM
  exact x_iret B0 dX7_spilled_7 rfl (by have q_ := eF1.symm; subst q_; exact ⟨rfl, hM⟩)
theorem c_X7_complaints_t {G : xG} {l : Launch} (hl : l.stackTraces = false) {m : Nat} {A : Nat → Nat} {F n : Nat → Int32} {B : Nat → Nat → Int32} {h0 h : xAH} (hM : MW m A F n B h0 h) {S Gn Cn T : Nat} (hI : Ginv n S Gn Cn T) (i : Nat) (hi : i < S) : xM G l yX7_complaints cX7_complaints 2 (Option.some Jvm.ClassFile.FieldType.int) [] 4 0 0 [.ref m, .int (nI i)] h (fun r h2 => r = some (.int (n (16 + 9 * i + 7))) ∧ MW m A (va_up F 7 (nI 0)) n B h0 h2) xNo := by
  refine xcode_start (by decide) (Nat.le_of_ble_eq_true rfl) hl ?_
  intro E hE B0
  subst hE
  have C := B0.1
  have hS8 := hI.S8; have hG6 := hI.G6; have hC6 := hI.C6; have hT := hI.T0
  show xW G E 2 0 0 h 0 [(0, .ref m), (1, .int (nI i))] []
  refine x_aload_n C dX7_complaints_0 rfl ?_
  refine x_iload_n C dX7_complaints_1 rfl ?_
  refine x_bipush C (nI 7) dX7_complaints_2 rfl ?_
  refine x_callV (mc' := 0) (ms' := 0) C dX7_complaints_4 (c_X7_askedS_t hl hM hI i 7 (by omega) (by decide)) mf_X7_askedS q4101 q4103 qs126 (Or.inl hM.1) rfl rfl rfl (Nat.le_of_ble_eq_true rfl) (by decide) rfl rfl (fun r h hP => ?_) (fun _ _ _ hX => False.elim hX)
  obtain ⟨rfl, hM⟩ := hP
  obtain ⟨F1, eF1, hM⟩ := MW.nameF hM
  exact x_iret B0 dX7_complaints_7 rfl (by have q_ := eF1.symm; subst q_; exact ⟨rfl, hM⟩)
theorem c_X7_complaints_f {G : xG} {l : Launch} (hl : l.stackTraces = false) {m : Nat} {A : Nat → Nat} {F n : Nat → Int32} {B : Nat → Nat → Int32} {h0 h : xAH} (hM : MW m A F n B h0 h) {S Gn Cn T : Nat} (hI : Ginv n S Gn Cn T) (x : Int32) (hx : ¬ isIn x S) : xM G l yX7_complaints cX7_complaints 2 (Option.some Jvm.ClassFile.FieldType.int) [] 4 0 0 [.ref m, .int x] h (fun r h2 => r = some (.int (nI 0)) ∧ MW m A (va_up (va_up F 7 (nI 0)) 7 (nI 1)) n B h0 h2) xNo := by
  refine xcode_start (by decide) (Nat.le_of_ble_eq_true rfl) hl ?_
  intro E hE B0
  subst hE
  have C := B0.1
  have hS8 := hI.S8; have hG6 := hI.G6; have hC6 := hI.C6; have hT := hI.T0
  show xW G E 2 0 0 h 0 [(0, .ref m), (1, .int x)] []
  refine x_aload_n C dX7_complaints_0 rfl ?_
  refine x_iload_n C dX7_complaints_1 rfl ?_
  refine x_bipush C (nI 7) dX7_complaints_2 rfl ?_
  refine x_callV (mc' := 0) (ms' := 0) C dX7_complaints_4 (c_X7_askedS_f hl hM hI x 7 hx) mf_X7_askedS q4101 q4103 qs126 (Or.inl hM.1) rfl rfl rfl (Nat.le_of_ble_eq_true rfl) (by decide) rfl rfl (fun r h hP => ?_) (fun _ _ _ hX => False.elim hX)
  obtain ⟨rfl, hM⟩ := hP
  obtain ⟨F1, eF1, hM⟩ := MW.nameF hM
  exact x_iret B0 dX7_complaints_7 rfl (by have q_ := eF1.symm; subst q_; exact ⟨rfl, hM⟩)
theorem c_X7_stock_t {G : xG} {l : Launch} (hl : l.stackTraces = false) {m : Nat} {A : Nat → Nat} {F n : Nat → Int32} {B : Nat → Nat → Int32} {h0 h : xAH} (hM : MW m A F n B h0 h) {S Gn Cn T : Nat} (hI : Ginv n S Gn Cn T) (i : Nat) (hi : i < Gn) : xM G l yX7_stock cX7_stock 2 (Option.some Jvm.ClassFile.FieldType.int) [] 4 0 0 [.ref m, .int (nI i)] h (fun r h2 => r = some (.int (n (88 + 9 * i + 4))) ∧ MW m A (va_up F 7 (nI 0)) n B h0 h2) xNo := by
  refine xcode_start (by decide) (Nat.le_of_ble_eq_true rfl) hl ?_
  intro E hE B0
  subst hE
  have C := B0.1
  have hS8 := hI.S8; have hG6 := hI.G6; have hC6 := hI.C6; have hT := hI.T0
  show xW G E 2 0 0 h 0 [(0, .ref m), (1, .int (nI i))] []
  refine x_aload_n C dX7_stock_0 rfl ?_
  refine x_iload_n C dX7_stock_1 rfl ?_
  refine x_iconst C (nI 4) dX7_stock_2 rfl ?_
  refine x_callV (mc' := 0) (ms' := 0) C dX7_stock_3 (c_X7_askedG_t hl hM hI i 4 (by omega) (by decide)) mf_X7_askedG q4129 q4131 qs127 (Or.inl hM.1) rfl rfl rfl (Nat.le_of_ble_eq_true rfl) (by decide) rfl rfl (fun r h hP => ?_) (fun _ _ _ hX => False.elim hX)
  obtain ⟨rfl, hM⟩ := hP
  obtain ⟨F1, eF1, hM⟩ := MW.nameF hM
  exact x_iret B0 dX7_stock_6 rfl (by have q_ := eF1.symm; subst q_; exact ⟨rfl, hM⟩)
theorem c_X7_stock_f {G : xG} {l : Launch} (hl : l.stackTraces = false) {m : Nat} {A : Nat → Nat} {F n : Nat → Int32} {B : Nat → Nat → Int32} {h0 h : xAH} (hM : MW m A F n B h0 h) {S Gn Cn T : Nat} (hI : Ginv n S Gn Cn T) (x : Int32) (hx : ¬ isIn x Gn) : xM G l yX7_stock cX7_stock 2 (Option.some Jvm.ClassFile.FieldType.int) [] 4 0 0 [.ref m, .int x] h (fun r h2 => r = some (.int (nI 0)) ∧ MW m A (va_up (va_up F 7 (nI 0)) 7 (nI 1)) n B h0 h2) xNo := by
  refine xcode_start (by decide) (Nat.le_of_ble_eq_true rfl) hl ?_
  intro E hE B0
  subst hE
  have C := B0.1
  have hS8 := hI.S8; have hG6 := hI.G6; have hC6 := hI.C6; have hT := hI.T0
  show xW G E 2 0 0 h 0 [(0, .ref m), (1, .int x)] []
  refine x_aload_n C dX7_stock_0 rfl ?_
  refine x_iload_n C dX7_stock_1 rfl ?_
  refine x_iconst C (nI 4) dX7_stock_2 rfl ?_
  refine x_callV (mc' := 0) (ms' := 0) C dX7_stock_3 (c_X7_askedG_f hl hM hI x 4 hx) mf_X7_askedG q4129 q4131 qs127 (Or.inl hM.1) rfl rfl rfl (Nat.le_of_ble_eq_true rfl) (by decide) rfl rfl (fun r h hP => ?_) (fun _ _ _ hX => False.elim hX)
  obtain ⟨rfl, hM⟩ := hP
  obtain ⟨F1, eF1, hM⟩ := MW.nameF hM
  exact x_iret B0 dX7_stock_6 rfl (by have q_ := eF1.symm; subst q_; exact ⟨rfl, hM⟩)
theorem c_X7_petals_t {G : xG} {l : Launch} (hl : l.stackTraces = false) {m : Nat} {A : Nat → Nat} {F n : Nat → Int32} {B : Nat → Nat → Int32} {h0 h : xAH} (hM : MW m A F n B h0 h) {S Gn Cn T : Nat} (hI : Ginv n S Gn Cn T) (i : Nat) (hi : i < Gn) : xM G l yX7_petals cX7_petals 2 (Option.some Jvm.ClassFile.FieldType.int) [] 4 0 0 [.ref m, .int (nI i)] h (fun r h2 => r = some (.int (n (88 + 9 * i + 5))) ∧ MW m A (va_up F 7 (nI 0)) n B h0 h2) xNo := by
  refine xcode_start (by decide) (Nat.le_of_ble_eq_true rfl) hl ?_
  intro E hE B0
  subst hE
  have C := B0.1
  have hS8 := hI.S8; have hG6 := hI.G6; have hC6 := hI.C6; have hT := hI.T0
  show xW G E 2 0 0 h 0 [(0, .ref m), (1, .int (nI i))] []
  refine x_aload_n C dX7_petals_0 rfl ?_
  refine x_iload_n C dX7_petals_1 rfl ?_
  refine x_iconst C (nI 5) dX7_petals_2 rfl ?_
  refine x_callV (mc' := 0) (ms' := 0) C dX7_petals_3 (c_X7_askedG_t hl hM hI i 5 (by omega) (by decide)) mf_X7_askedG q4129 q4131 qs127 (Or.inl hM.1) rfl rfl rfl (Nat.le_of_ble_eq_true rfl) (by decide) rfl rfl (fun r h hP => ?_) (fun _ _ _ hX => False.elim hX)
  obtain ⟨rfl, hM⟩ := hP
  obtain ⟨F1, eF1, hM⟩ := MW.nameF hM
  exact x_iret B0 dX7_petals_6 rfl (by have q_ := eF1.symm; subst q_; exact ⟨rfl, hM⟩)
theorem c_X7_petals_f {G : xG} {l : Launch} (hl : l.stackTraces = false) {m : Nat} {A : Nat → Nat} {F n : Nat → Int32} {B : Nat → Nat → Int32} {h0 h : xAH} (hM : MW m A F n B h0 h) {S Gn Cn T : Nat} (hI : Ginv n S Gn Cn T) (x : Int32) (hx : ¬ isIn x Gn) : xM G l yX7_petals cX7_petals 2 (Option.some Jvm.ClassFile.FieldType.int) [] 4 0 0 [.ref m, .int x] h (fun r h2 => r = some (.int (nI 0)) ∧ MW m A (va_up (va_up F 7 (nI 0)) 7 (nI 1)) n B h0 h2) xNo := by
  refine xcode_start (by decide) (Nat.le_of_ble_eq_true rfl) hl ?_
  intro E hE B0
  subst hE
  have C := B0.1
  have hS8 := hI.S8; have hG6 := hI.G6; have hC6 := hI.C6; have hT := hI.T0
  show xW G E 2 0 0 h 0 [(0, .ref m), (1, .int x)] []
  refine x_aload_n C dX7_petals_0 rfl ?_
  refine x_iload_n C dX7_petals_1 rfl ?_
  refine x_iconst C (nI 5) dX7_petals_2 rfl ?_
  refine x_callV (mc' := 0) (ms' := 0) C dX7_petals_3 (c_X7_askedG_f hl hM hI x 5 hx) mf_X7_askedG q4129 q4131 qs127 (Or.inl hM.1) rfl rfl rfl (Nat.le_of_ble_eq_true rfl) (by decide) rfl rfl (fun r h hP => ?_) (fun _ _ _ hX => False.elim hX)
  obtain ⟨rfl, hM⟩ := hP
  obtain ⟨F1, eF1, hM⟩ := MW.nameF hM
  exact x_iret B0 dX7_petals_6 rfl (by have q_ := eF1.symm; subst q_; exact ⟨rfl, hM⟩)
theorem c_X7_rotted_t {G : xG} {l : Launch} (hl : l.stackTraces = false) {m : Nat} {A : Nat → Nat} {F n : Nat → Int32} {B : Nat → Nat → Int32} {h0 h : xAH} (hM : MW m A F n B h0 h) {S Gn Cn T : Nat} (hI : Ginv n S Gn Cn T) (i : Nat) (hi : i < Gn) : xM G l yX7_rotted cX7_rotted 2 (Option.some Jvm.ClassFile.FieldType.int) [] 4 0 0 [.ref m, .int (nI i)] h (fun r h2 => r = some (.int (n (88 + 9 * i + 7))) ∧ MW m A (va_up F 7 (nI 0)) n B h0 h2) xNo := by
  refine xcode_start (by decide) (Nat.le_of_ble_eq_true rfl) hl ?_
  intro E hE B0
  subst hE
  have C := B0.1
  have hS8 := hI.S8; have hG6 := hI.G6; have hC6 := hI.C6; have hT := hI.T0
  show xW G E 2 0 0 h 0 [(0, .ref m), (1, .int (nI i))] []
  refine x_aload_n C dX7_rotted_0 rfl ?_
  refine x_iload_n C dX7_rotted_1 rfl ?_
  refine x_bipush C (nI 7) dX7_rotted_2 rfl ?_
  refine x_callV (mc' := 0) (ms' := 0) C dX7_rotted_4 (c_X7_askedG_t hl hM hI i 7 (by omega) (by decide)) mf_X7_askedG q4129 q4131 qs127 (Or.inl hM.1) rfl rfl rfl (Nat.le_of_ble_eq_true rfl) (by decide) rfl rfl (fun r h hP => ?_) (fun _ _ _ hX => False.elim hX)
  obtain ⟨rfl, hM⟩ := hP
  obtain ⟨F1, eF1, hM⟩ := MW.nameF hM
  exact x_iret B0 dX7_rotted_7 rfl (by have q_ := eF1.symm; subst q_; exact ⟨rfl, hM⟩)
theorem c_X7_rotted_f {G : xG} {l : Launch} (hl : l.stackTraces = false) {m : Nat} {A : Nat → Nat} {F n : Nat → Int32} {B : Nat → Nat → Int32} {h0 h : xAH} (hM : MW m A F n B h0 h) {S Gn Cn T : Nat} (hI : Ginv n S Gn Cn T) (x : Int32) (hx : ¬ isIn x Gn) : xM G l yX7_rotted cX7_rotted 2 (Option.some Jvm.ClassFile.FieldType.int) [] 4 0 0 [.ref m, .int x] h (fun r h2 => r = some (.int (nI 0)) ∧ MW m A (va_up (va_up F 7 (nI 0)) 7 (nI 1)) n B h0 h2) xNo := by
  refine xcode_start (by decide) (Nat.le_of_ble_eq_true rfl) hl ?_
  intro E hE B0
  subst hE
  have C := B0.1
  have hS8 := hI.S8; have hG6 := hI.G6; have hC6 := hI.C6; have hT := hI.T0
  show xW G E 2 0 0 h 0 [(0, .ref m), (1, .int x)] []
  refine x_aload_n C dX7_rotted_0 rfl ?_
  refine x_iload_n C dX7_rotted_1 rfl ?_
  refine x_bipush C (nI 7) dX7_rotted_2 rfl ?_
  refine x_callV (mc' := 0) (ms' := 0) C dX7_rotted_4 (c_X7_askedG_f hl hM hI x 7 hx) mf_X7_askedG q4129 q4131 qs127 (Or.inl hM.1) rfl rfl rfl (Nat.le_of_ble_eq_true rfl) (by decide) rfl rfl (fun r h hP => ?_) (fun _ _ _ hX => False.elim hX)
  obtain ⟨rfl, hM⟩ := hP
  obtain ⟨F1, eF1, hM⟩ := MW.nameF hM
  exact x_iret B0 dX7_rotted_7 rfl (by have q_ := eF1.symm; subst q_; exact ⟨rfl, hM⟩)
theorem c_X7_prizes_t {G : xG} {l : Launch} (hl : l.stackTraces = false) {m : Nat} {A : Nat → Nat} {F n : Nat → Int32} {B : Nat → Nat → Int32} {h0 h : xAH} (hM : MW m A F n B h0 h) {S Gn Cn T : Nat} (hI : Ginv n S Gn Cn T) (i : Nat) (hi : i < Gn) : xM G l yX7_prizes cX7_prizes 2 (Option.some Jvm.ClassFile.FieldType.int) [] 4 0 0 [.ref m, .int (nI i)] h (fun r h2 => r = some (.int (n (88 + 9 * i + 8))) ∧ MW m A (va_up F 7 (nI 0)) n B h0 h2) xNo := by
  refine xcode_start (by decide) (Nat.le_of_ble_eq_true rfl) hl ?_
  intro E hE B0
  subst hE
  have C := B0.1
  have hS8 := hI.S8; have hG6 := hI.G6; have hC6 := hI.C6; have hT := hI.T0
  show xW G E 2 0 0 h 0 [(0, .ref m), (1, .int (nI i))] []
  refine x_aload_n C dX7_prizes_0 rfl ?_
  refine x_iload_n C dX7_prizes_1 rfl ?_
  refine x_bipush C (nI 8) dX7_prizes_2 rfl ?_
  refine x_callV (mc' := 0) (ms' := 0) C dX7_prizes_4 (c_X7_askedG_t hl hM hI i 8 (by omega) (by decide)) mf_X7_askedG q4129 q4131 qs127 (Or.inl hM.1) rfl rfl rfl (Nat.le_of_ble_eq_true rfl) (by decide) rfl rfl (fun r h hP => ?_) (fun _ _ _ hX => False.elim hX)
  obtain ⟨rfl, hM⟩ := hP
  obtain ⟨F1, eF1, hM⟩ := MW.nameF hM
  exact x_iret B0 dX7_prizes_7 rfl (by have q_ := eF1.symm; subst q_; exact ⟨rfl, hM⟩)
theorem c_X7_prizes_f {G : xG} {l : Launch} (hl : l.stackTraces = false) {m : Nat} {A : Nat → Nat} {F n : Nat → Int32} {B : Nat → Nat → Int32} {h0 h : xAH} (hM : MW m A F n B h0 h) {S Gn Cn T : Nat} (hI : Ginv n S Gn Cn T) (x : Int32) (hx : ¬ isIn x Gn) : xM G l yX7_prizes cX7_prizes 2 (Option.some Jvm.ClassFile.FieldType.int) [] 4 0 0 [.ref m, .int x] h (fun r h2 => r = some (.int (nI 0)) ∧ MW m A (va_up (va_up F 7 (nI 0)) 7 (nI 1)) n B h0 h2) xNo := by
  refine xcode_start (by decide) (Nat.le_of_ble_eq_true rfl) hl ?_
  intro E hE B0
  subst hE
  have C := B0.1
  have hS8 := hI.S8; have hG6 := hI.G6; have hC6 := hI.C6; have hT := hI.T0
  show xW G E 2 0 0 h 0 [(0, .ref m), (1, .int x)] []
  refine x_aload_n C dX7_prizes_0 rfl ?_
  refine x_iload_n C dX7_prizes_1 rfl ?_
  refine x_bipush C (nI 8) dX7_prizes_2 rfl ?_
  refine x_callV (mc' := 0) (ms' := 0) C dX7_prizes_4 (c_X7_askedG_f hl hM hI x 8 hx) mf_X7_askedG q4129 q4131 qs127 (Or.inl hM.1) rfl rfl rfl (Nat.le_of_ble_eq_true rfl) (by decide) rfl rfl (fun r h hP => ?_) (fun _ _ _ hX => False.elim hX)
  obtain ⟨rfl, hM⟩ := hP
  obtain ⟨F1, eF1, hM⟩ := MW.nameF hM
  exact x_iret B0 dX7_prizes_7 rfl (by have q_ := eF1.symm; subst q_; exact ⟨rfl, hM⟩)
