theorem nI1 : nI 1 = 1 := rfl
theorem nI10 : nI 10 = 10 := rfl
theorem nI2 : nI 2 = 2 := rfl
/-! ===== the reference: leaves, the night ===== -/
theorem c_X7_in {G : xG} {l : Launch} (hl : l.stackTraces = false) {m : Nat} {A : Nat → Nat} {F n : Nat → Int32} {B : Nat → Nat → Int32} {h0 h : xAH} (hM : MW m A F n B h0 h) (v lo hi : Int32) : xM G l yX7_in cX7_in 3 (Option.some Jvm.ClassFile.FieldType.boolean) [] 1 0 0 [.int v, .int lo, .int hi] h (fun r h2 => r = some (.int (bI (decide (lo ≤ v ∧ v ≤ hi)))) ∧ MW m A F n B h0 h2) xNo := by
  refine xcode_start (by decide) (Nat.le_of_ble_eq_true rfl) hl ?_
  intro E hE B0
  subst hE
  have C := B0.1
  show xW G E 3 0 0 h 0 [(0, .int v), (1, .int lo), (2, .int hi)] []
  refine x_iload_n C dX7_in_0 rfl ?_
  refine x_iload_n C dX7_in_1 rfl ?_
  refine x_icmp_gt C 14 dX7_in_2 (by decide) (fun c_2 => ?_) (fun c_2 => ?_)
  · skip
    refine x_iconst C (nI 0) dX7_in_14 rfl ?_
    exact x_zret B0 dX7_in_15 rfl rfl (by exact ⟨by first | rw [bI_t (And.intro (i_le c_2) (i_le c_7))] | rw [bI_f (fun q => i_nle c_2 q.1)] | rw [bI_f (fun q => i_nle c_7 q.2)], hM⟩)
  · skip
    refine x_iload_n C dX7_in_5 rfl ?_
    refine x_iload_n C dX7_in_6 rfl ?_
    refine x_icmp_gt C 14 dX7_in_7 (by decide) (fun c_7 => ?_) (fun c_7 => ?_)
    · skip
      refine x_iconst C (nI 0) dX7_in_14 rfl ?_
      exact x_zret B0 dX7_in_15 rfl rfl (by exact ⟨by first | rw [bI_t (And.intro (i_le c_2) (i_le c_7))] | rw [bI_f (fun q => i_nle c_2 q.1)] | rw [bI_f (fun q => i_nle c_7 q.2)], hM⟩)
    · skip
      refine x_iconst C (nI 1) dX7_in_10 rfl ?_
      refine x_goto C 15 dX7_in_11 (by decide) ?_
      exact x_zret B0 dX7_in_15 rfl rfl (by exact ⟨by first | rw [bI_t (And.intro (i_le c_2) (i_le c_7))] | rw [bI_f (fun q => i_nle c_2 q.1)] | rw [bI_f (fun q => i_nle c_7 q.2)], hM⟩)
theorem c_X7_right_t {G : xG} {l : Launch} (hl : l.stackTraces = false) {m : Nat} {A : Nat → Nat} {F n : Nat → Int32} {B : Nat → Nat → Int32} {h0 h : xAH} (hM : MW m A F n B h0 h) (e : Int32) (h7 : F 7 = 0) : xM G l yX7_right cX7_right 3 (Option.some Jvm.ClassFile.FieldType.boolean) [] 1 0 0 [.ref m, .int (nI 1), .int e] h (fun r h2 => r = some (.int (nI 1)) ∧ MW m A F n B h0 h2) xNo := by
  refine xcode_start (by decide) (Nat.le_of_ble_eq_true rfl) hl ?_
  intro E hE B0
  subst hE
  have C := B0.1
  show xW G E 3 0 0 h 0 [(0, .ref m), (1, .int (nI 1)), (2, .int e)] []
  refine x_aload_n C dX7_right_0 rfl ?_
  refine m_getI C dX7_right_1 fl_X7_85_6 hM rfl ?_
  refine x_if_ne C 16 dX7_right_4 (by decide) (fun c_4 => ?_) (fun c_4 => ?_)
  · skip
    exact absurd h7 c_4
  · skip
    refine x_iload_n C dX7_right_7 rfl ?_
    refine x_if_ne C 16 dX7_right_8 (by decide) (fun c_8 => ?_) (fun c_8 => ?_)
    · skip
      have c_8 := (xn_neT 1 0 c_8 (by omega) (by omega))
      refine x_aload_n C dX7_right_16 rfl ?_
      refine m_getI C dX7_right_17 fl_X7_85_6 hM rfl ?_
      refine x_if_ne C 27 dX7_right_20 (by decide) (fun c_20 => ?_) (fun c_20 => ?_)
      · skip
        exact absurd h7 c_20
      · skip
        refine x_iconst C (nI 1) dX7_right_23 rfl ?_
        refine x_goto C 28 dX7_right_24 (by decide) ?_
        exact x_zret B0 dX7_right_28 rfl rfl (by exact ⟨rfl, hM⟩)
    · exact absurd c_8 (by decide)
theorem c_X7_right_f {G : xG} {l : Launch} (hl : l.stackTraces = false) {m : Nat} {A : Nat → Nat} {F n : Nat → Int32} {B : Nat → Nat → Int32} {h0 h : xAH} (hM : MW m A F n B h0 h) (e : Int32) (h7 : F 7 = 0) (he : e ≠ 0) : xM G l yX7_right cX7_right 3 (Option.some Jvm.ClassFile.FieldType.boolean) [] 1 0 0 [.ref m, .int (nI 0), .int e] h (fun r h2 => r = some (.int (nI 0)) ∧ MW m A (va_up F 7 e) n B h0 h2) xNo := by
  refine xcode_start (by decide) (Nat.le_of_ble_eq_true rfl) hl ?_
  intro E hE B0
  subst hE
  have C := B0.1
  show xW G E 3 0 0 h 0 [(0, .ref m), (1, .int (nI 0)), (2, .int e)] []
  refine x_aload_n C dX7_right_0 rfl ?_
  refine m_getI C dX7_right_1 fl_X7_85_6 hM rfl ?_
  refine x_if_ne C 16 dX7_right_4 (by decide) (fun c_4 => ?_) (fun c_4 => ?_)
  · skip
    exact absurd h7 c_4
  · skip
    refine x_iload_n C dX7_right_7 rfl ?_
    refine x_if_ne C 16 dX7_right_8 (by decide) (fun c_8 => ?_) (fun c_8 => ?_)
    · exact absurd c_8 (by decide)
    · skip
      have c_8 := (xn_neF 0 0 c_8 (by omega) (by omega))
      refine x_aload_n C dX7_right_11 rfl ?_
      refine x_iload_n C dX7_right_12 rfl ?_
      refine m_putI C dX7_right_13 fl_X7_85_6 hM rfl rfl ⟨rfl, rfl⟩ (fun h hM => ?_)
      obtain ⟨F1, eF1, hM⟩ := MW.nameF hM
      refine x_aload_n C dX7_right_16 rfl ?_
      refine m_getI C dX7_right_17 fl_X7_85_6 hM rfl ?_
      refine x_toi e (by subst eF1; exact rfl) ?_
      refine x_if_ne C 27 dX7_right_20 (by decide) (fun c_20 => ?_) (fun c_20 => ?_)
      · skip
        refine x_iconst C (nI 0) dX7_right_27 rfl ?_
        exact x_zret B0 dX7_right_28 rfl rfl (by subst eF1; exact ⟨rfl, hM⟩)
      · skip
        exfalso; subst eF1; exact he c_20
theorem c_X7_ofS {G : xG} {l : Launch} (hl : l.stackTraces = false) {m : Nat} {A : Nat → Nat} {F n : Nat → Int32} {B : Nat → Nat → Int32} {h0 h : xAH} (hM : MW m A F n B h0 h) (i w : Nat) (hb : 16 + 9 * i + w < 212) : xM G l yX7_ofS cX7_ofS 3 (Option.some Jvm.ClassFile.FieldType.int) [] 1 0 0 [.ref m, .int (nI i), .int (nI w)] h (fun r h2 => r = some (.int (n (16 + 9 * i + w))) ∧ MW m A F n B h0 h2) xNo := by
  refine xcode_start (by decide) (Nat.le_of_ble_eq_true rfl) hl ?_
  intro E hE B0
  subst hE
  have C := B0.1
  show xW G E 3 0 0 h 0 [(0, .ref m), (1, .int (nI i)), (2, .int (nI w))] []
  refine x_aload_n C dX7_ofS_0 rfl ?_
  refine m_getN C dX7_ofS_1 fl_X7_7_6 hM ?_
  refine x_bipush C (nI 16) dX7_ofS_4 rfl ?_
  refine x_bipush C (nI 9) dX7_ofS_6 rfl ?_
  refine x_iload_n C dX7_ofS_8 rfl ?_
  refine x_imul C dX7_ofS_9 ?_
  refine x_toi (nI (9 * i)) (pk_mul _ _) ?_
  refine x_iadd C dX7_ofS_10 ?_
  refine x_toi (nI (16 + (9 * i))) (nI_add _ _) ?_
  refine x_iload_n C dX7_ofS_11 rfl ?_
  refine x_iadd C dX7_ofS_12 ?_
  refine x_toi (nI ((16 + (9 * i)) + w)) (nI_add _ _) ?_
  refine m_ldN C dX7_ofS_13 hM (j := (16 + (9 * i)) + w) rfl (by omega) ?_
  exact x_iret B0 dX7_ofS_14 rfl (by exact ⟨rfl, hM⟩)
theorem c_X7_ofG {G : xG} {l : Launch} (hl : l.stackTraces = false) {m : Nat} {A : Nat → Nat} {F n : Nat → Int32} {B : Nat → Nat → Int32} {h0 h : xAH} (hM : MW m A F n B h0 h) (i w : Nat) (hb : 88 + 9 * i + w < 212) : xM G l yX7_ofG cX7_ofG 3 (Option.some Jvm.ClassFile.FieldType.int) [] 1 0 0 [.ref m, .int (nI i), .int (nI w)] h (fun r h2 => r = some (.int (n (88 + 9 * i + w))) ∧ MW m A F n B h0 h2) xNo := by
  refine xcode_start (by decide) (Nat.le_of_ble_eq_true rfl) hl ?_
  intro E hE B0
  subst hE
  have C := B0.1
  show xW G E 3 0 0 h 0 [(0, .ref m), (1, .int (nI i)), (2, .int (nI w))] []
  refine x_aload_n C dX7_ofG_0 rfl ?_
  refine m_getN C dX7_ofG_1 fl_X7_7_6 hM ?_
  refine x_bipush C (nI 88) dX7_ofG_4 rfl ?_
  refine x_bipush C (nI 9) dX7_ofG_6 rfl ?_
  refine x_iload_n C dX7_ofG_8 rfl ?_
  refine x_imul C dX7_ofG_9 ?_
  refine x_toi (nI (9 * i)) (pk_mul _ _) ?_
  refine x_iadd C dX7_ofG_10 ?_
  refine x_toi (nI (88 + (9 * i))) (nI_add _ _) ?_
  refine x_iload_n C dX7_ofG_11 rfl ?_
  refine x_iadd C dX7_ofG_12 ?_
  refine x_toi (nI ((88 + (9 * i)) + w)) (nI_add _ _) ?_
  refine m_ldN C dX7_ofG_13 hM (j := (88 + (9 * i)) + w) rfl (by omega) ?_
  exact x_iret B0 dX7_ofG_14 rfl (by exact ⟨rfl, hM⟩)
theorem c_X7_ofC {G : xG} {l : Launch} (hl : l.stackTraces = false) {m : Nat} {A : Nat → Nat} {F n : Nat → Int32} {B : Nat → Nat → Int32} {h0 h : xAH} (hM : MW m A F n B h0 h) (i w : Nat) (hb : 142 + 5 * i + w < 212) : xM G l yX7_ofC cX7_ofC 3 (Option.some Jvm.ClassFile.FieldType.int) [] 1 0 0 [.ref m, .int (nI i), .int (nI w)] h (fun r h2 => r = some (.int (n (142 + 5 * i + w))) ∧ MW m A F n B h0 h2) xNo := by
  refine xcode_start (by decide) (Nat.le_of_ble_eq_true rfl) hl ?_
  intro E hE B0
  subst hE
  have C := B0.1
  show xW G E 3 0 0 h 0 [(0, .ref m), (1, .int (nI i)), (2, .int (nI w))] []
  refine x_aload_n C dX7_ofC_0 rfl ?_
  refine m_getN C dX7_ofC_1 fl_X7_7_6 hM ?_
  refine x_sipush C (nI 142) dX7_ofC_4 rfl ?_
  refine x_iconst C (nI 5) dX7_ofC_7 rfl ?_
  refine x_iload_n C dX7_ofC_8 rfl ?_
  refine x_imul C dX7_ofC_9 ?_
  refine x_toi (nI (5 * i)) (pk_mul _ _) ?_
  refine x_iadd C dX7_ofC_10 ?_
  refine x_toi (nI (142 + (5 * i))) (nI_add _ _) ?_
  refine x_iload_n C dX7_ofC_11 rfl ?_
  refine x_iadd C dX7_ofC_12 ?_
  refine x_toi (nI ((142 + (5 * i)) + w)) (nI_add _ _) ?_
  refine m_ldN C dX7_ofC_13 hM (j := (142 + (5 * i)) + w) rfl (by omega) ?_
  exact x_iret B0 dX7_ofC_14 rfl (by exact ⟨rfl, hM⟩)
theorem c_X7_addS {G : xG} {l : Launch} (hl : l.stackTraces = false) {m : Nat} {A : Nat → Nat} {F n : Nat → Int32} {B : Nat → Nat → Int32} {h0 h : xAH} (hM : MW m A F n B h0 h) (i w : Nat) (x : Int32) (hb : 16 + 9 * i + w < 212) : xM G l yX7_addS cX7_addS 4 (Option.none : Option Jvm.ClassFile.FieldType) [] 1 0 0 [.ref m, .int (nI i), .int (nI w), .int x] h (fun r h2 => r = none ∧ MW m A F (va_up n (16 + 9 * i + w) (n (16 + 9 * i + w) + x)) B h0 h2) xNo := by
  refine xcode_start (by decide) (Nat.le_of_ble_eq_true rfl) hl ?_
  intro E hE B0
  subst hE
  have C := B0.1
  show xW G E 4 0 0 h 0 [(0, .ref m), (1, .int (nI i)), (2, .int (nI w)), (3, .int x)] []
  refine x_aload_n C dX7_addS_0 rfl ?_
  refine m_getN C dX7_addS_1 fl_X7_7_6 hM ?_
  refine x_bipush C (nI 16) dX7_addS_4 rfl ?_
  refine x_bipush C (nI 9) dX7_addS_6 rfl ?_
  refine x_iload_n C dX7_addS_8 rfl ?_
  refine x_imul C dX7_addS_9 ?_
  refine x_toi (nI (9 * i)) (pk_mul _ _) ?_
  refine x_iadd C dX7_addS_10 ?_
  refine x_toi (nI (16 + (9 * i))) (nI_add _ _) ?_
  refine x_iload_n C dX7_addS_11 rfl ?_
  refine x_iadd C dX7_addS_12 ?_
  refine x_toi (nI ((16 + (9 * i)) + w)) (nI_add _ _) ?_
  refine x_dup2 C dX7_addS_13 rfl rfl ?_
  refine m_ldN C dX7_addS_14 hM (j := (16 + (9 * i)) + w) rfl (by omega) ?_
  refine x_iload_n C dX7_addS_15 rfl ?_
  refine x_iadd C dX7_addS_16 ?_
  refine m_stN C dX7_addS_17 hM (j := (16 + (9 * i)) + w) rfl (by omega) (fun h hM => ?_)
  obtain ⟨n1, en1, hM⟩ := MW.nameN hM
  exact x_ret B0 dX7_addS_18 rfl (by subst en1; exact ⟨rfl, hM⟩)
theorem c_X7_addG {G : xG} {l : Launch} (hl : l.stackTraces = false) {m : Nat} {A : Nat → Nat} {F n : Nat → Int32} {B : Nat → Nat → Int32} {h0 h : xAH} (hM : MW m A F n B h0 h) (i w : Nat) (x : Int32) (hb : 88 + 9 * i + w < 212) : xM G l yX7_addG cX7_addG 4 (Option.none : Option Jvm.ClassFile.FieldType) [] 1 0 0 [.ref m, .int (nI i), .int (nI w), .int x] h (fun r h2 => r = none ∧ MW m A F (va_up n (88 + 9 * i + w) (n (88 + 9 * i + w) + x)) B h0 h2) xNo := by
  refine xcode_start (by decide) (Nat.le_of_ble_eq_true rfl) hl ?_
  intro E hE B0
  subst hE
  have C := B0.1
  show xW G E 4 0 0 h 0 [(0, .ref m), (1, .int (nI i)), (2, .int (nI w)), (3, .int x)] []
  refine x_aload_n C dX7_addG_0 rfl ?_
  refine m_getN C dX7_addG_1 fl_X7_7_6 hM ?_
  refine x_bipush C (nI 88) dX7_addG_4 rfl ?_
  refine x_bipush C (nI 9) dX7_addG_6 rfl ?_
  refine x_iload_n C dX7_addG_8 rfl ?_
  refine x_imul C dX7_addG_9 ?_
  refine x_toi (nI (9 * i)) (pk_mul _ _) ?_
  refine x_iadd C dX7_addG_10 ?_
  refine x_toi (nI (88 + (9 * i))) (nI_add _ _) ?_
  refine x_iload_n C dX7_addG_11 rfl ?_
  refine x_iadd C dX7_addG_12 ?_
  refine x_toi (nI ((88 + (9 * i)) + w)) (nI_add _ _) ?_
  refine x_dup2 C dX7_addG_13 rfl rfl ?_
  refine m_ldN C dX7_addG_14 hM (j := (88 + (9 * i)) + w) rfl (by omega) ?_
  refine x_iload_n C dX7_addG_15 rfl ?_
  refine x_iadd C dX7_addG_16 ?_
  refine m_stN C dX7_addG_17 hM (j := (88 + (9 * i)) + w) rfl (by omega) (fun h hM => ?_)
  obtain ⟨n1, en1, hM⟩ := MW.nameN hM
  exact x_ret B0 dX7_addG_18 rfl (by subst en1; exact ⟨rfl, hM⟩)
theorem c_X7_putC {G : xG} {l : Launch} (hl : l.stackTraces = false) {m : Nat} {A : Nat → Nat} {F n : Nat → Int32} {B : Nat → Nat → Int32} {h0 h : xAH} (hM : MW m A F n B h0 h) (i w : Nat) (x : Int32) (hb : 142 + 5 * i + w < 212) : xM G l yX7_putC cX7_putC 4 (Option.none : Option Jvm.ClassFile.FieldType) [] 1 0 0 [.ref m, .int (nI i), .int (nI w), .int x] h (fun r h2 => r = none ∧ MW m A F (va_up n (142 + 5 * i + w) x) B h0 h2) xNo := by
  refine xcode_start (by decide) (Nat.le_of_ble_eq_true rfl) hl ?_
  intro E hE B0
  subst hE
  have C := B0.1
  show xW G E 4 0 0 h 0 [(0, .ref m), (1, .int (nI i)), (2, .int (nI w)), (3, .int x)] []
  refine x_aload_n C dX7_putC_0 rfl ?_
  refine m_getN C dX7_putC_1 fl_X7_7_6 hM ?_
  refine x_sipush C (nI 142) dX7_putC_4 rfl ?_
  refine x_iconst C (nI 5) dX7_putC_7 rfl ?_
  refine x_iload_n C dX7_putC_8 rfl ?_
  refine x_imul C dX7_putC_9 ?_
  refine x_toi (nI (5 * i)) (pk_mul _ _) ?_
  refine x_iadd C dX7_putC_10 ?_
  refine x_toi (nI (142 + (5 * i))) (nI_add _ _) ?_
  refine x_iload_n C dX7_putC_11 rfl ?_
  refine x_iadd C dX7_putC_12 ?_
  refine x_toi (nI ((142 + (5 * i)) + w)) (nI_add _ _) ?_
  refine x_iload_n C dX7_putC_13 rfl ?_
  refine m_stN C dX7_putC_14 hM (j := (142 + (5 * i)) + w) rfl (by omega) (fun h hM => ?_)
  obtain ⟨n1, en1, hM⟩ := MW.nameN hM
  exact x_ret B0 dX7_putC_15 rfl (by subst en1; exact ⟨rfl, hM⟩)
theorem c_X7_isStreet {G : xG} {l : Launch} (hl : l.stackTraces = false) {m : Nat} {A : Nat → Nat} {F n : Nat → Int32} {B : Nat → Nat → Int32} {h0 h : xAH} (hM : MW m A F n B h0 h) {S Gn Cn T : Nat} (hI : Ginv n S Gn Cn T) (x : Int32) : xM G l yX7_isStreet cX7_isStreet 2 (Option.some Jvm.ClassFile.FieldType.boolean) [] 2 0 0 [.ref m, .int x] h (fun r h2 => r = some (.int (bI (decide (isIn x S)))) ∧ MW m A F n B h0 h2) xNo := by
  refine xcode_start (by decide) (Nat.le_of_ble_eq_true rfl) hl ?_
  intro E hE B0
  subst hE
  have C := B0.1
  show xW G E 2 0 0 h 0 [(0, .ref m), (1, .int x)] []
  refine x_iload_n C dX7_isStreet_0 rfl ?_
  refine x_iconst C (nI 0) dX7_isStreet_1 rfl ?_
  refine x_aload_n C dX7_isStreet_2 rfl ?_
  refine m_getN C dX7_isStreet_3 fl_X7_7_6 hM ?_
  refine x_bipush C (nI 6) dX7_isStreet_6 rfl ?_
  refine m_ldN C dX7_isStreet_8 hM (j := 6) rfl (by omega) ?_
  refine x_toi (nI S) hI.s ?_
  refine x_iconst C (nI 1) dX7_isStreet_9 rfl ?_
  refine x_isub C dX7_isStreet_10 ?_
  refine x_callS (mc' := 0) (ms' := 0) C dX7_isStreet_11 (c_X7_in hl hM x (nI 0) ((nI S) - (nI 1))) mf_X7_in q3696 q3697 rfl rfl (Nat.le_of_ble_eq_true rfl) (by decide) rfl rfl (fun r h hP => ?_) (fun _ _ _ hX => False.elim hX)
  obtain ⟨rfl, hM⟩ := hP
  by_cases hb_11 : (nI 0) ≤ x ∧ x ≤ ((nI S) - (nI 1))
  · refine x_toi (nI 1) (bI_t hb_11) ?_
    exact x_zret B0 dX7_isStreet_14 rfl rfl (by exact ⟨by first | rw [bI_t (p := isIn x S) hb_11] | rw [bI_f (p := isIn x S) hb_11], hM⟩)
  · refine x_toi (nI 0) (bI_f hb_11) ?_
    exact x_zret B0 dX7_isStreet_14 rfl rfl (by exact ⟨by first | rw [bI_t (p := isIn x S) hb_11] | rw [bI_f (p := isIn x S) hb_11], hM⟩)
theorem c_X7_isGarden {G : xG} {l : Launch} (hl : l.stackTraces = false) {m : Nat} {A : Nat → Nat} {F n : Nat → Int32} {B : Nat → Nat → Int32} {h0 h : xAH} (hM : MW m A F n B h0 h) {S Gn Cn T : Nat} (hI : Ginv n S Gn Cn T) (x : Int32) : xM G l yX7_isGarden cX7_isGarden 2 (Option.some Jvm.ClassFile.FieldType.boolean) [] 2 0 0 [.ref m, .int x] h (fun r h2 => r = some (.int (bI (decide (isIn x Gn)))) ∧ MW m A F n B h0 h2) xNo := by
  refine xcode_start (by decide) (Nat.le_of_ble_eq_true rfl) hl ?_
  intro E hE B0
  subst hE
  have C := B0.1
  show xW G E 2 0 0 h 0 [(0, .ref m), (1, .int x)] []
  refine x_iload_n C dX7_isGarden_0 rfl ?_
  refine x_iconst C (nI 0) dX7_isGarden_1 rfl ?_
  refine x_aload_n C dX7_isGarden_2 rfl ?_
  refine m_getN C dX7_isGarden_3 fl_X7_7_6 hM ?_
  refine x_bipush C (nI 7) dX7_isGarden_6 rfl ?_
  refine m_ldN C dX7_isGarden_8 hM (j := 7) rfl (by omega) ?_
  refine x_toi (nI Gn) hI.g ?_
  refine x_iconst C (nI 1) dX7_isGarden_9 rfl ?_
  refine x_isub C dX7_isGarden_10 ?_
  refine x_callS (mc' := 0) (ms' := 0) C dX7_isGarden_11 (c_X7_in hl hM x (nI 0) ((nI Gn) - (nI 1))) mf_X7_in q3696 q3697 rfl rfl (Nat.le_of_ble_eq_true rfl) (by decide) rfl rfl (fun r h hP => ?_) (fun _ _ _ hX => False.elim hX)
  obtain ⟨rfl, hM⟩ := hP
  by_cases hb_11 : (nI 0) ≤ x ∧ x ≤ ((nI Gn) - (nI 1))
  · refine x_toi (nI 1) (bI_t hb_11) ?_
    exact x_zret B0 dX7_isGarden_14 rfl rfl (by exact ⟨by first | rw [bI_t (p := isIn x Gn) hb_11] | rw [bI_f (p := isIn x Gn) hb_11], hM⟩)
  · refine x_toi (nI 0) (bI_f hb_11) ?_
    exact x_zret B0 dX7_isGarden_14 rfl rfl (by exact ⟨by first | rw [bI_t (p := isIn x Gn) hb_11] | rw [bI_f (p := isIn x Gn) hb_11], hM⟩)
theorem c_X7_isCart {G : xG} {l : Launch} (hl : l.stackTraces = false) {m : Nat} {A : Nat → Nat} {F n : Nat → Int32} {B : Nat → Nat → Int32} {h0 h : xAH} (hM : MW m A F n B h0 h) {S Gn Cn T : Nat} (hI : Ginv n S Gn Cn T) (x : Int32) : xM G l yX7_isCart cX7_isCart 2 (Option.some Jvm.ClassFile.FieldType.boolean) [] 2 0 0 [.ref m, .int x] h (fun r h2 => r = some (.int (bI (decide (isIn x Cn)))) ∧ MW m A F n B h0 h2) xNo := by
  refine xcode_start (by decide) (Nat.le_of_ble_eq_true rfl) hl ?_
  intro E hE B0
  subst hE
  have C := B0.1
  show xW G E 2 0 0 h 0 [(0, .ref m), (1, .int x)] []
  refine x_iload_n C dX7_isCart_0 rfl ?_
  refine x_iconst C (nI 0) dX7_isCart_1 rfl ?_
  refine x_aload_n C dX7_isCart_2 rfl ?_
  refine m_getN C dX7_isCart_3 fl_X7_7_6 hM ?_
  refine x_bipush C (nI 8) dX7_isCart_6 rfl ?_
  refine m_ldN C dX7_isCart_8 hM (j := 8) rfl (by omega) ?_
  refine x_toi (nI Cn) hI.c ?_
  refine x_iconst C (nI 1) dX7_isCart_9 rfl ?_
  refine x_isub C dX7_isCart_10 ?_
  refine x_callS (mc' := 0) (ms' := 0) C dX7_isCart_11 (c_X7_in hl hM x (nI 0) ((nI Cn) - (nI 1))) mf_X7_in q3696 q3697 rfl rfl (Nat.le_of_ble_eq_true rfl) (by decide) rfl rfl (fun r h hP => ?_) (fun _ _ _ hX => False.elim hX)
  obtain ⟨rfl, hM⟩ := hP
  by_cases hb_11 : (nI 0) ≤ x ∧ x ≤ ((nI Cn) - (nI 1))
  · refine x_toi (nI 1) (bI_t hb_11) ?_
    exact x_zret B0 dX7_isCart_14 rfl rfl (by exact ⟨by first | rw [bI_t (p := isIn x Cn) hb_11] | rw [bI_f (p := isIn x Cn) hb_11], hM⟩)
  · refine x_toi (nI 0) (bI_f hb_11) ?_
    exact x_zret B0 dX7_isCart_14 rfl rfl (by exact ⟨by first | rw [bI_t (p := isIn x Cn) hb_11] | rw [bI_f (p := isIn x Cn) hb_11], hM⟩)
theorem c_X7_isBound {G : xG} {l : Launch} (hl : l.stackTraces = false) {m : Nat} {A : Nat → Nat} {F n : Nat → Int32} {B : Nat → Nat → Int32} {h0 h : xAH} (hM : MW m A F n B h0 h) (c : Nat) (hc : c < 6) : xM G l yX7_isBound cX7_isBound 2 (Option.some Jvm.ClassFile.FieldType.boolean) [] 2 0 0 [.ref m, .int (nI c)] h (fun r h2 => r = some (.int (bI (decide (0 < n (142 + 5 * c + 4))))) ∧ MW m A F n B h0 h2) xNo := by
  refine xcode_start (by decide) (Nat.le_of_ble_eq_true rfl) hl ?_
  intro E hE B0
  subst hE
  have C := B0.1
  show xW G E 2 0 0 h 0 [(0, .ref m), (1, .int (nI c))] []
  refine x_aload_n C dX7_isBound_0 rfl ?_
  refine x_iload_n C dX7_isBound_1 rfl ?_
  refine x_iconst C (nI 4) dX7_isBound_2 rfl ?_
  refine x_callV (mc' := 0) (ms' := 0) C dX7_isBound_3 (c_X7_ofC hl hM c 4 (by omega)) mf_X7_ofC q3991 q3993 qs103 (Or.inl hM.1) rfl rfl rfl (Nat.le_of_ble_eq_true rfl) (by decide) rfl rfl (fun r h hP => ?_) (fun _ _ _ hX => False.elim hX)
  obtain ⟨rfl, hM⟩ := hP
  refine x_if_le C 13 dX7_isBound_6 (by decide) (fun c_6 => ?_) (fun c_6 => ?_)
  · skip
    refine x_iconst C (nI 0) dX7_isBound_13 rfl ?_
    exact x_zret B0 dX7_isBound_14 rfl rfl (by exact ⟨by first | rw [bI_f (i_nlt c_6)] | rw [bI_t (i_lt c_6)], hM⟩)
  · skip
    refine x_iconst C (nI 1) dX7_isBound_9 rfl ?_
    refine x_goto C 14 dX7_isBound_10 (by decide) ?_
    exact x_zret B0 dX7_isBound_14 rfl rfl (by exact ⟨by first | rw [bI_f (i_nlt c_6)] | rw [bI_t (i_lt c_6)], hM⟩)
theorem c_X7_hours {G : xG} {l : Launch} (hl : l.stackTraces = false) {m : Nat} {A : Nat → Nat} {F n : Nat → Int32} {B : Nat → Nat → Int32} {h0 h : xAH} (hM : MW m A F n B h0 h) {S Gn Cn T : Nat} (hI : Ginv n S Gn Cn T) (c s g : Nat) (hc : c < Cn) (hs : s < S) (hg : g < Gn) : xM G l yX7_hours cX7_hours 5 (Option.some Jvm.ClassFile.FieldType.int) [] 2 0 0 [.ref m, .int (nI c), .int (nI s), .int (nI g)] h (fun r h2 => r = some (.int (sp_hours n c s g)) ∧ MW m A F n B h0 h2) xNo := by
  refine xcode_start (by decide) (Nat.le_of_ble_eq_true rfl) hl ?_
  intro E hE B0
  subst hE
  have C := B0.1
  have hS8 := hI.S8; have hG6 := hI.G6; have hC6 := hI.C6
  show xW G E 5 0 0 h 0 [(0, .ref m), (1, .int (nI c)), (2, .int (nI s)), (3, .int (nI g))] []
  refine x_aload_n C dX7_hours_0 rfl ?_
  refine x_iload_n C dX7_hours_1 rfl ?_
  refine x_iconst C (nI 1) dX7_hours_2 rfl ?_
  refine x_callV (mc' := 0) (ms' := 0) C dX7_hours_3 (c_X7_ofS hl hM s 1 (by omega)) mf_X7_ofS q3754 q3756 qs78 (Or.inl hM.1) rfl rfl rfl (Nat.le_of_ble_eq_true rfl) (by decide) rfl rfl (fun r h hP => ?_) (fun _ _ _ hX => False.elim hX)
  obtain ⟨rfl, hM⟩ := hP
  refine x_aload_n C dX7_hours_6 rfl ?_
  refine x_iload_n C dX7_hours_7 rfl ?_
  refine x_iconst C (nI 2) dX7_hours_8 rfl ?_
  refine x_callV (mc' := 0) (ms' := 0) C dX7_hours_9 (c_X7_ofS hl hM s 2 (by omega)) mf_X7_ofS q3754 q3756 qs78 (Or.inl hM.1) rfl rfl rfl (Nat.le_of_ble_eq_true rfl) (by decide) rfl rfl (fun r h hP => ?_) (fun _ _ _ hX => False.elim hX)
  obtain ⟨rfl, hM⟩ := hP
  refine x_iadd C dX7_hours_12 ?_
  refine x_aload_n C dX7_hours_13 rfl ?_
  refine x_iload_n C dX7_hours_14 rfl ?_
  refine x_iconst C (nI 1) dX7_hours_15 rfl ?_
  refine x_callV (mc' := 0) (ms' := 0) C dX7_hours_16 (c_X7_ofS hl hM s 1 (by omega)) mf_X7_ofS q3754 q3756 qs78 (Or.inl hM.1) rfl rfl rfl (Nat.le_of_ble_eq_true rfl) (by decide) rfl rfl (fun r h hP => ?_) (fun _ _ _ hX => False.elim hX)
  obtain ⟨rfl, hM⟩ := hP
  refine x_aload_n C dX7_hours_19 rfl ?_
  refine x_iload_n C dX7_hours_20 rfl ?_
  refine x_iconst C (nI 1) dX7_hours_21 rfl ?_
  refine x_callV (mc' := 0) (ms' := 0) C dX7_hours_22 (c_X7_ofG hl hM g 1 (by omega)) mf_X7_ofG q3762 q3764 qs80 (Or.inl hM.1) rfl rfl rfl (Nat.le_of_ble_eq_true rfl) (by decide) rfl rfl (fun r h hP => ?_) (fun _ _ _ hX => False.elim hX)
  obtain ⟨rfl, hM⟩ := hP
  refine x_isub C dX7_hours_25 ?_
  refine x_abs C dX7_hours_26 q4003 q3010 q155 q3011 (by decide) (Nat.le_of_ble_eq_true rfl) ?_
  refine x_iadd C dX7_hours_29 ?_
  refine x_aload_n C dX7_hours_30 rfl ?_
  refine x_iload_n C dX7_hours_31 rfl ?_
  refine x_iconst C (nI 2) dX7_hours_32 rfl ?_
  refine x_callV (mc' := 0) (ms' := 0) C dX7_hours_33 (c_X7_ofS hl hM s 2 (by omega)) mf_X7_ofS q3754 q3756 qs78 (Or.inl hM.1) rfl rfl rfl (Nat.le_of_ble_eq_true rfl) (by decide) rfl rfl (fun r h hP => ?_) (fun _ _ _ hX => False.elim hX)
  obtain ⟨rfl, hM⟩ := hP
  refine x_aload_n C dX7_hours_36 rfl ?_
  refine x_iload_n C dX7_hours_37 rfl ?_
  refine x_iconst C (nI 2) dX7_hours_38 rfl ?_
  refine x_callV (mc' := 0) (ms' := 0) C dX7_hours_39 (c_X7_ofG hl hM g 2 (by omega)) mf_X7_ofG q3762 q3764 qs80 (Or.inl hM.1) rfl rfl rfl (Nat.le_of_ble_eq_true rfl) (by decide) rfl rfl (fun r h hP => ?_) (fun _ _ _ hX => False.elim hX)
  obtain ⟨rfl, hM⟩ := hP
  refine x_isub C dX7_hours_42 ?_
  refine x_abs C dX7_hours_43 q4003 q3010 q155 q3011 (by decide) (Nat.le_of_ble_eq_true rfl) ?_
  refine x_iadd C dX7_hours_46 ?_
  refine x_istore C dX7_hours_47 (by decide) rfl ?_
  refine x_iload C dX7_hours_49 rfl ?_
  refine x_aload_n C dX7_hours_51 rfl ?_
  refine x_iload_n C dX7_hours_52 rfl ?_
  refine x_iconst C (nI 1) dX7_hours_53 rfl ?_
  refine x_callV (mc' := 0) (ms' := 0) C dX7_hours_54 (c_X7_ofC hl hM c 1 (by omega)) mf_X7_ofC q3991 q3993 qs103 (Or.inl hM.1) rfl rfl rfl (Nat.le_of_ble_eq_true rfl) (by decide) rfl rfl (fun r h hP => ?_) (fun _ _ _ hX => False.elim hX)
  obtain ⟨rfl, hM⟩ := hP
  refine x_iadd C dX7_hours_57 ?_
  refine x_iconst C (nI 1) dX7_hours_58 rfl ?_
  refine x_isub C dX7_hours_59 ?_
  refine x_aload_n C dX7_hours_60 rfl ?_
  refine x_iload_n C dX7_hours_61 rfl ?_
  refine x_iconst C (nI 1) dX7_hours_62 rfl ?_
  refine x_callV (mc' := 0) (ms' := 0) C dX7_hours_63 (c_X7_ofC hl hM c 1 (by omega)) mf_X7_ofC q3991 q3993 qs103 (Or.inl hM.1) rfl rfl rfl (Nat.le_of_ble_eq_true rfl) (by decide) rfl rfl (fun r h hP => ?_) (fun _ _ _ hX => False.elim hX)
  obtain ⟨rfl, hM⟩ := hP
  refine x_idiv C dX7_hours_66 (by have := (hI.spd hc); rw [this.1.1]; exact nI_ne0 (by omega) (by have := this.1.2; omega)) ?_
  exact x_iret B0 dX7_hours_67 rfl (by exact ⟨rfl, hM⟩)
theorem c_X7_blows {G : xG} {l : Launch} (hl : l.stackTraces = false) {m : Nat} {A : Nat → Nat} {F n : Nat → Int32} {B : Nat → Nat → Int32} {h0 h : xAH} (hM : MW m A F n B h0 h) {S Gn Cn T : Nat} (hI : Ginv n S Gn Cn T)  : xM G l yX7_blows cX7_blows 1 (Option.some Jvm.ClassFile.FieldType.int) [] 1 0 0 [.ref m] h (fun r h2 => r = some (.int (nI (sp_wind n))) ∧ MW m A F n B h0 h2) xNo := by
  refine xcode_start (by decide) (Nat.le_of_ble_eq_true rfl) hl ?_
  intro E hE B0
  subst hE
  have C := B0.1
  have hT := hI.T0
  show xW G E 1 0 0 h 0 [(0, .ref m)] []
  refine x_aload_n C dX7_blows_0 rfl ?_
  refine m_getN C dX7_blows_1 fl_X7_7_6 hM ?_
  refine x_iconst C (nI 4) dX7_blows_4 rfl ?_
  refine m_ldN C dX7_blows_5 hM (j := 4) rfl (by omega) ?_
  have hb_5 := hI.w.2
  refine x_toi (nI (cn (n 4))) hI.w.1 ?_
  refine x_aload_n C dX7_blows_6 rfl ?_
  refine m_getN C dX7_blows_7 fl_X7_7_6 hM ?_
  refine x_iconst C (nI 5) dX7_blows_10 rfl ?_
  refine m_ldN C dX7_blows_11 hM (j := 5) rfl (by omega) ?_
  have hb_11 := hI.t.2
  refine x_toi (nI (cn (n 5))) hI.t.1 ?_
  refine x_iadd C dX7_blows_12 ?_
  refine x_toi (nI ((cn (n 4)) + (cn (n 5)))) (nI_add _ _) ?_
  refine x_iconst C (nI 4) dX7_blows_13 rfl ?_
  refine x_irem C dX7_blows_14 (nI_ne0 (by omega) (by omega)) ?_
  refine x_toi (nI (((cn (n 4)) + (cn (n 5))) % 4)) (pk_rem (by omega) (by omega) (by omega)) ?_
  exact x_iret B0 dX7_blows_15 rfl (by exact ⟨rfl, hM⟩)
theorem c_X7_loadOf {G : xG} {l : Launch} (hl : l.stackTraces = false) {m : Nat} {A : Nat → Nat} {F n : Nat → Int32} {B : Nat → Nat → Int32} {h0 h : xAH} (hM : MW m A F n B h0 h) {S Gn Cn T : Nat} (hI : Ginv n S Gn Cn T) (c : Nat) (hc : c < Cn) : xM G l yX7_loadOf cX7_loadOf 2 (Option.some Jvm.ClassFile.FieldType.int) [] 3 0 0 [.ref m, .int (nI c)] h (fun r h2 => r = some (.int (sp_load n c)) ∧ MW m A F n B h0 h2) xNo := by
  refine xcode_start (by decide) (Nat.le_of_ble_eq_true rfl) hl ?_
  intro E hE B0
  subst hE
  have C := B0.1
  have hS8 := hI.S8; have hG6 := hI.G6; have hC6 := hI.C6; have hT := hI.T0
  show xW G E 2 0 0 h 0 [(0, .ref m), (1, .int (nI c))] []
  refine x_aload_n C dX7_loadOf_0 rfl ?_
  refine x_iload_n C dX7_loadOf_1 rfl ?_
  refine x_callV (mc' := 0) (ms' := 0) C dX7_loadOf_2 (c_X7_isBound hl hM c (by omega)) mf_X7_isBound q3987 q3989 qs102 (Or.inl hM.1) rfl rfl rfl (Nat.le_of_ble_eq_true rfl) (by decide) rfl rfl (fun r h hP => ?_) (fun _ _ _ hX => False.elim hX)
  obtain ⟨rfl, hM⟩ := hP
  by_cases hb_2 : 0 < n (142 + 5 * c + 4)
  · refine x_toi (nI 1) (bI_t hb_2) ?_
    refine x_if_eq C 31 dX7_loadOf_5 (by decide) (fun c_5 => ?_) (fun c_5 => ?_)
    · exact absurd c_5 (by decide)
    · skip
      have c_5 := (xn_eqF 1 0 c_5 (by omega) (by omega))
      refine x_aload_n C dX7_loadOf_8 rfl ?_
      refine x_iload_n C dX7_loadOf_9 rfl ?_
      refine x_iconst C (nI 0) dX7_loadOf_10 rfl ?_
      refine x_callV (mc' := 0) (ms' := 0) C dX7_loadOf_11 (c_X7_ofC hl hM c 0 (by omega)) mf_X7_ofC q3991 q3993 qs103 (Or.inl hM.1) rfl rfl rfl (Nat.le_of_ble_eq_true rfl) (by decide) rfl rfl (fun r h hP => ?_) (fun _ _ _ hX => False.elim hX)
      obtain ⟨rfl, hM⟩ := hP
      refine x_aload_n C dX7_loadOf_14 rfl ?_
      refine x_aload_n C dX7_loadOf_15 rfl ?_
      refine x_iload_n C dX7_loadOf_16 rfl ?_
      refine x_iconst C (nI 2) dX7_loadOf_17 rfl ?_
      refine x_callV (mc' := 0) (ms' := 0) C dX7_loadOf_18 (c_X7_ofC hl hM c 2 (by omega)) mf_X7_ofC q3991 q3993 qs103 (Or.inl hM.1) rfl rfl rfl (Nat.le_of_ble_eq_true rfl) (by decide) rfl rfl (fun r h hP => ?_) (fun _ _ _ hX => False.elim hX)
      obtain ⟨rfl, hM⟩ := hP
      refine x_toi (nI (cn (n (142 + 5 * c + 2)))) (hI.fr (c := c) (by omega)).1 ?_
      have hfr_29 := (hI.fr (c := c) (by omega)).2
      refine x_iconst C (nI 5) dX7_loadOf_21 rfl ?_
      refine x_callV (mc' := 0) (ms' := 0) C dX7_loadOf_22 (c_X7_ofS hl hM (cn (n (142 + 5 * c + 2))) 5 (by omega)) mf_X7_ofS q3754 q3756 qs78 (Or.inl hM.1) rfl rfl rfl (Nat.le_of_ble_eq_true rfl) (by decide) rfl rfl (fun r h hP => ?_) (fun _ _ _ hX => False.elim hX)
      obtain ⟨rfl, hM⟩ := hP
      refine x_min C dX7_loadOf_25 q3699 q437 q155 q438 (by decide) (Nat.le_of_ble_eq_true rfl) ?_
      refine x_goto C 32 dX7_loadOf_28 (by decide) ?_
      exact x_iret B0 dX7_loadOf_32 rfl (by exact ⟨by unfold sp_load; first | (rw [if_pos hb_2]; rfl) | (rw [if_neg hb_2]; rfl), hM⟩)
  · refine x_toi (nI 0) (bI_f hb_2) ?_
    refine x_if_eq C 31 dX7_loadOf_5 (by decide) (fun c_5 => ?_) (fun c_5 => ?_)
    · skip
      have c_5 := (xn_eqT 0 0 c_5 (by omega) (by omega))
      refine x_iconst C (nI 0) dX7_loadOf_31 rfl ?_
      exact x_iret B0 dX7_loadOf_32 rfl (by exact ⟨by unfold sp_load; first | (rw [if_pos hb_2]; rfl) | (rw [if_neg hb_2]; rfl), hM⟩)
    · exact absurd c_5 (by decide)
theorem c_X7_isLate {G : xG} {l : Launch} (hl : l.stackTraces = false) {m : Nat} {A : Nat → Nat} {F n : Nat → Int32} {B : Nat → Nat → Int32} {h0 h : xAH} (hM : MW m A F n B h0 h) {S Gn Cn T : Nat} (hI : Ginv n S Gn Cn T) (c : Nat) (hc : c < Cn) : xM G l yX7_isLate cX7_isLate 2 (Option.some Jvm.ClassFile.FieldType.boolean) [] 3 0 0 [.ref m, .int (nI c)] h (fun r h2 => r = some (.int (bI (sp_late n c))) ∧ MW m A F n B h0 h2) xNo := by
  refine xcode_start (by decide) (Nat.le_of_ble_eq_true rfl) hl ?_
  intro E hE B0
  subst hE
  have C := B0.1
  have hS8 := hI.S8; have hG6 := hI.G6; have hC6 := hI.C6; have hT := hI.T0
  show xW G E 2 0 0 h 0 [(0, .ref m), (1, .int (nI c))] []
  refine x_aload_n C dX7_isLate_0 rfl ?_
  refine x_iload_n C dX7_isLate_1 rfl ?_
  refine x_aload_n C dX7_isLate_2 rfl ?_
  refine x_iload_n C dX7_isLate_3 rfl ?_
  refine x_iconst C (nI 2) dX7_isLate_4 rfl ?_
  refine x_callV (mc' := 0) (ms' := 0) C dX7_isLate_5 (c_X7_ofC hl hM c 2 (by omega)) mf_X7_ofC q3991 q3993 qs103 (Or.inl hM.1) rfl rfl rfl (Nat.le_of_ble_eq_true rfl) (by decide) rfl rfl (fun r h hP => ?_) (fun _ _ _ hX => False.elim hX)
  obtain ⟨rfl, hM⟩ := hP
  refine x_toi (nI (cn (n (142 + 5 * c + 2)))) (hI.fr (c := c) (by omega)).1 ?_
  have hfr_15 := (hI.fr (c := c) (by omega)).2
  refine x_aload_n C dX7_isLate_8 rfl ?_
  refine x_iload_n C dX7_isLate_9 rfl ?_
  refine x_iconst C (nI 3) dX7_isLate_10 rfl ?_
  refine x_callV (mc' := 0) (ms' := 0) C dX7_isLate_11 (c_X7_ofC hl hM c 3 (by omega)) mf_X7_ofC q3991 q3993 qs103 (Or.inl hM.1) rfl rfl rfl (Nat.le_of_ble_eq_true rfl) (by decide) rfl rfl (fun r h hP => ?_) (fun _ _ _ hX => False.elim hX)
  obtain ⟨rfl, hM⟩ := hP
  refine x_toi (nI (cn (n (142 + 5 * c + 3)))) (hI.to (c := c) (by omega)).1 ?_
  have hto_22 := (hI.to (c := c) (by omega)).2
  refine x_callV (mc' := 0) (ms' := 0) C dX7_isLate_14 (c_X7_hours hl hM hI c (cn (n (142 + 5 * c + 2))) (cn (n (142 + 5 * c + 3))) (by omega) (by omega) (by omega)) mf_X7_hours q3999 q4001 qs105 (Or.inl hM.1) rfl rfl rfl (Nat.le_of_ble_eq_true rfl) (by decide) rfl rfl (fun r h hP => ?_) (fun _ _ _ hX => False.elim hX)
  obtain ⟨rfl, hM⟩ := hP
  refine x_aload_n C dX7_isLate_17 rfl ?_
  refine m_getN C dX7_isLate_18 fl_X7_7_6 hM ?_
  refine x_iconst C (nI 0) dX7_isLate_21 rfl ?_
  refine m_ldN C dX7_isLate_22 hM (j := 0) rfl (by omega) ?_
  refine x_icmp_le C 30 dX7_isLate_23 (by decide) (fun c_23 => ?_) (fun c_23 => ?_)
  · skip
    refine x_iconst C (nI 0) dX7_isLate_30 rfl ?_
    exact x_zret B0 dX7_isLate_31 rfl rfl (by exact ⟨by unfold sp_late; first | rw [bI_f (i_nlt c_23)] | rw [bI_t (i_lt c_23)], hM⟩)
  · skip
    refine x_iconst C (nI 1) dX7_isLate_26 rfl ?_
    refine x_goto C 31 dX7_isLate_27 (by decide) ?_
    exact x_zret B0 dX7_isLate_31 rfl rfl (by exact ⟨by unfold sp_late; first | rw [bI_f (i_nlt c_23)] | rw [bI_t (i_lt c_23)], hM⟩)
theorem c_X7_gathers {G : xG} {l : Launch} (hl : l.stackTraces = false) {m : Nat} {A : Nat → Nat} {F n : Nat → Int32} {B : Nat → Nat → Int32} {h0 h : xAH} (hM : MW m A F n B h0 h) (s : Nat) (hs : s < 8) : xM G l yX7_gathers cX7_gathers 4 (Option.none : Option Jvm.ClassFile.FieldType) [] 2 0 0 [.ref m, .int (nI s)] h (fun r h2 => r = none ∧ MW m A F (sp_gather n s) B h0 h2) xNo := by
  refine xcode_start (by decide) (Nat.le_of_ble_eq_true rfl) hl ?_
  intro E hE B0
  subst hE
  have C := B0.1
  show xW G E 4 0 0 h 0 [(0, .ref m), (1, .int (nI s))] []
  refine x_aload_n C dX7_gathers_0 rfl ?_
  refine x_iload_n C dX7_gathers_1 rfl ?_
  refine x_iconst C (nI 3) dX7_gathers_2 rfl ?_
  refine x_callV (mc' := 0) (ms' := 0) C dX7_gathers_3 (c_X7_ofS hl hM s 3 (by omega)) mf_X7_ofS q3754 q3756 qs78 (Or.inl hM.1) rfl rfl rfl (Nat.le_of_ble_eq_true rfl) (by decide) rfl rfl (fun r h hP => ?_) (fun _ _ _ hX => False.elim hX)
  obtain ⟨rfl, hM⟩ := hP
  refine x_istore_n C dX7_gathers_6 (by decide) rfl ?_
  refine x_iconst C (nI 0) dX7_gathers_7 rfl ?_
  refine x_aload_n C dX7_gathers_8 rfl ?_
  refine x_iload_n C dX7_gathers_9 rfl ?_
  refine x_iconst C (nI 5) dX7_gathers_10 rfl ?_
  refine x_callV (mc' := 0) (ms' := 0) C dX7_gathers_11 (c_X7_ofS hl hM s 5 (by omega)) mf_X7_ofS q3754 q3756 qs78 (Or.inl hM.1) rfl rfl rfl (Nat.le_of_ble_eq_true rfl) (by decide) rfl rfl (fun r h hP => ?_) (fun _ _ _ hX => False.elim hX)
  obtain ⟨rfl, hM⟩ := hP
  refine x_iload_n C dX7_gathers_14 rfl ?_
  refine x_iadd C dX7_gathers_15 ?_
  refine x_aload_n C dX7_gathers_16 rfl ?_
  refine x_iload_n C dX7_gathers_17 rfl ?_
  refine x_iconst C (nI 4) dX7_gathers_18 rfl ?_
  refine x_callV (mc' := 0) (ms' := 0) C dX7_gathers_19 (c_X7_ofS hl hM s 4 (by omega)) mf_X7_ofS q3754 q3756 qs78 (Or.inl hM.1) rfl rfl rfl (Nat.le_of_ble_eq_true rfl) (by decide) rfl rfl (fun r h hP => ?_) (fun _ _ _ hX => False.elim hX)
  obtain ⟨rfl, hM⟩ := hP
  refine x_isub C dX7_gathers_22 ?_
  refine x_max C dX7_gathers_23 q4028 q419 q155 q420 (by decide) (Nat.le_of_ble_eq_true rfl) ?_
  refine x_istore_n C dX7_gathers_26 (by decide) rfl ?_
  refine x_aload_n C dX7_gathers_27 rfl ?_
  refine x_iload_n C dX7_gathers_28 rfl ?_
  refine x_iconst C (nI 5) dX7_gathers_29 rfl ?_
  refine x_iload_n C dX7_gathers_30 rfl ?_
  refine x_iload_n C dX7_gathers_31 rfl ?_
  refine x_isub C dX7_gathers_32 ?_
  refine x_callV (mc' := 0) (ms' := 0) C dX7_gathers_33 (c_X7_addS hl hM s 5 ((n (16 + 9 * s + 3)) - (imax (nI 0) (((n (16 + 9 * s + 5)) + (n (16 + 9 * s + 3))) - (n (16 + 9 * s + 4))))) (by omega)) mf_X7_addS q4029 q4031 qs112 (Or.inl hM.1) rfl rfl rfl (Nat.le_of_ble_eq_true rfl) (by decide) rfl rfl (fun r h hP => ?_) (fun _ _ _ hX => False.elim hX)
  obtain ⟨rfl, hM⟩ := hP
  obtain ⟨n1, en1, hM⟩ := MW.nameN hM
  refine x_aload_n C dX7_gathers_36 rfl ?_
  refine x_iload_n C dX7_gathers_37 rfl ?_
  refine x_bipush C (nI 6) dX7_gathers_38 rfl ?_
  refine x_iload_n C dX7_gathers_40 rfl ?_
  refine x_callV (mc' := 0) (ms' := 0) C dX7_gathers_41 (c_X7_addS hl hM s 6 (imax (nI 0) (((n (16 + 9 * s + 5)) + (n (16 + 9 * s + 3))) - (n (16 + 9 * s + 4)))) (by omega)) mf_X7_addS q4029 q4031 qs112 (Or.inl hM.1) rfl rfl rfl (Nat.le_of_ble_eq_true rfl) (by decide) rfl rfl (fun r h hP => ?_) (fun _ _ _ hX => False.elim hX)
  obtain ⟨rfl, hM⟩ := hP
  obtain ⟨n2, en2, hM⟩ := MW.nameN hM
  refine x_aload_n C dX7_gathers_44 rfl ?_
  refine m_getN C dX7_gathers_45 fl_X7_7_6 hM ?_
  refine x_bipush C (nI 10) dX7_gathers_48 rfl ?_
  refine x_dup2 C dX7_gathers_50 rfl rfl ?_
  refine m_ldN C dX7_gathers_51 hM (j := 10) rfl (by omega) ?_
  refine x_iload_n C dX7_gathers_52 rfl ?_
  refine x_iadd C dX7_gathers_53 ?_
  refine m_stN C dX7_gathers_54 hM (j := 10) rfl (by omega) (fun h hM => ?_)
  obtain ⟨n3, en3, hM⟩ := MW.nameN hM
  refine x_aload_n C dX7_gathers_55 rfl ?_
  refine m_getN C dX7_gathers_56 fl_X7_7_6 hM ?_
  refine x_bipush C (nI 16) dX7_gathers_59 rfl ?_
  refine x_bipush C (nI 9) dX7_gathers_61 rfl ?_
  refine x_iload_n C dX7_gathers_63 rfl ?_
  refine x_imul C dX7_gathers_64 ?_
  refine x_toi (nI (9 * s)) (pk_mul _ _) ?_
  refine x_iadd C dX7_gathers_65 ?_
  refine x_toi (nI (16 + (9 * s))) (nI_add _ _) ?_
  refine x_bipush C (nI 8) dX7_gathers_66 rfl ?_
  refine x_iadd C dX7_gathers_68 ?_
  refine x_toi (nI ((16 + (9 * s)) + 8)) (nI_add _ _) ?_
  refine x_iconst C (nI 0) dX7_gathers_69 rfl ?_
  refine m_stN C dX7_gathers_70 hM (j := (16 + (9 * s)) + 8) rfl (by omega) (fun h hM => ?_)
  obtain ⟨n4, en4, hM⟩ := MW.nameN hM
  exact x_ret B0 dX7_gathers_71 rfl (by subst en4; subst en3; subst en2; subst en1; exact ⟨rfl, hM⟩)
theorem c_X7_earns {G : xG} {l : Launch} (hl : l.stackTraces = false) {m : Nat} {A : Nat → Nat} {F n : Nat → Int32} {B : Nat → Nat → Int32} {h0 h : xAH} (hM : MW m A F n B h0 h) (x : Int32) : xM G l yX7_earns cX7_earns 2 (Option.none : Option Jvm.ClassFile.FieldType) [] 1 0 0 [.ref m, .int x] h (fun r h2 => r = none ∧ MW m A F (sp_earn n x) B h0 h2) xNo := by
  refine xcode_start (by decide) (Nat.le_of_ble_eq_true rfl) hl ?_
  intro E hE B0
  subst hE
  have C := B0.1
  show xW G E 2 0 0 h 0 [(0, .ref m), (1, .int x)] []
  refine x_aload_n C dX7_earns_0 rfl ?_
  refine m_getN C dX7_earns_1 fl_X7_7_6 hM ?_
  refine x_bipush C (nI 9) dX7_earns_4 rfl ?_
  refine x_dup2 C dX7_earns_6 rfl rfl ?_
  refine m_ldN C dX7_earns_7 hM (j := 9) rfl (by omega) ?_
  refine x_iload_n C dX7_earns_8 rfl ?_
  refine x_iadd C dX7_earns_9 ?_
  refine m_stN C dX7_earns_10 hM (j := 9) rfl (by omega) (fun h hM => ?_)
  obtain ⟨n1, en1, hM⟩ := MW.nameN hM
  refine x_aload_n C dX7_earns_11 rfl ?_
  refine m_getN C dX7_earns_12 fl_X7_7_6 hM ?_
  refine x_bipush C (nI 14) dX7_earns_15 rfl ?_
  refine x_dup2 C dX7_earns_17 rfl rfl ?_
  refine m_ldN C dX7_earns_18 hM (j := 14) rfl (by omega) ?_
  refine x_iload_n C dX7_earns_19 rfl ?_
  refine x_iadd C dX7_earns_20 ?_
  refine m_stN C dX7_earns_21 hM (j := 14) rfl (by omega) (fun h hM => ?_)
  obtain ⟨n2, en2, hM⟩ := MW.nameN hM
  exact x_ret B0 dX7_earns_22 rfl (by subst en2; subst en1; exact ⟨rfl, hM⟩)
theorem c_X7_smells {G : xG} {l : Launch} (hl : l.stackTraces = false) {m : Nat} {A : Nat → Nat} {F n : Nat → Int32} {B : Nat → Nat → Int32} {h0 h : xAH} (hM : MW m A F n B h0 h) {S Gn Cn T : Nat} (hI : Ginv n S Gn Cn T) (f : Nat) (u : Int32) (t : Nat) (hf : f < S) (ht : t < S) : xM G l yX7_smells cX7_smells 9 (Option.some Jvm.ClassFile.FieldType.boolean) [] 2 0 0 [.ref m, .int (nI f), .int u, .int (nI t)] h (fun r h2 => r = some (.int (bI (sp_smells n f u t))) ∧ MW m A F n B h0 h2) xNo := by
  refine xcode_start (by decide) (Nat.le_of_ble_eq_true rfl) hl ?_
  intro E hE B0
  subst hE
  have C := B0.1
  have hS8 := hI.S8; have hG6 := hI.G6; have hC6 := hI.C6; have hT := hI.T0; have hW : sp_wind n < 4 := Nat.mod_lt _ (by decide)
  show xW G E 9 0 0 h 0 [(0, .ref m), (1, .int (nI f)), (2, .int u), (3, .int (nI t))] []
  refine x_aload_n C dX7_smells_0 rfl ?_
  refine x_iload_n C dX7_smells_1 rfl ?_
  refine x_iconst C (nI 1) dX7_smells_2 rfl ?_
  refine x_callV (mc' := 0) (ms' := 0) C dX7_smells_3 (c_X7_ofS hl hM t 1 (by omega)) mf_X7_ofS q3754 q3756 qs78 (Or.inl hM.1) rfl rfl rfl (Nat.le_of_ble_eq_true rfl) (by decide) rfl rfl (fun r h hP => ?_) (fun _ _ _ hX => False.elim hX)
  obtain ⟨rfl, hM⟩ := hP
  refine x_aload_n C dX7_smells_6 rfl ?_
  refine x_iload_n C dX7_smells_7 rfl ?_
  refine x_iconst C (nI 1) dX7_smells_8 rfl ?_
  refine x_callV (mc' := 0) (ms' := 0) C dX7_smells_9 (c_X7_ofS hl hM f 1 (by omega)) mf_X7_ofS q3754 q3756 qs78 (Or.inl hM.1) rfl rfl rfl (Nat.le_of_ble_eq_true rfl) (by decide) rfl rfl (fun r h hP => ?_) (fun _ _ _ hX => False.elim hX)
  obtain ⟨rfl, hM⟩ := hP
  refine x_isub C dX7_smells_12 ?_
  refine x_istore C dX7_smells_13 (by decide) rfl ?_
  refine x_aload_n C dX7_smells_15 rfl ?_
  refine x_iload_n C dX7_smells_16 rfl ?_
  refine x_iconst C (nI 2) dX7_smells_17 rfl ?_
  refine x_callV (mc' := 0) (ms' := 0) C dX7_smells_18 (c_X7_ofS hl hM t 2 (by omega)) mf_X7_ofS q3754 q3756 qs78 (Or.inl hM.1) rfl rfl rfl (Nat.le_of_ble_eq_true rfl) (by decide) rfl rfl (fun r h hP => ?_) (fun _ _ _ hX => False.elim hX)
  obtain ⟨rfl, hM⟩ := hP
  refine x_aload_n C dX7_smells_21 rfl ?_
  refine x_iload_n C dX7_smells_22 rfl ?_
  refine x_iconst C (nI 2) dX7_smells_23 rfl ?_
  refine x_callV (mc' := 0) (ms' := 0) C dX7_smells_24 (c_X7_ofS hl hM f 2 (by omega)) mf_X7_ofS q3754 q3756 qs78 (Or.inl hM.1) rfl rfl rfl (Nat.le_of_ble_eq_true rfl) (by decide) rfl rfl (fun r h hP => ?_) (fun _ _ _ hX => False.elim hX)
  obtain ⟨rfl, hM⟩ := hP
  refine x_isub C dX7_smells_27 ?_
  refine x_istore C dX7_smells_28 (by decide) rfl ?_
  refine x_aload_n C dX7_smells_30 rfl ?_
  refine x_callV (mc' := 0) (ms' := 0) C dX7_smells_31 (c_X7_blows hl hM hI) mf_X7_blows q4061 q4063 qs120 (Or.inl hM.1) rfl rfl rfl (Nat.le_of_ble_eq_true rfl) (by decide) rfl rfl (fun r h hP => ?_) (fun _ _ _ hX => False.elim hX)
  obtain ⟨rfl, hM⟩ := hP
  refine x_istore C dX7_smells_34 (by decide) rfl ?_
  refine x_iload C dX7_smells_36 rfl ?_
  refine x_if_ne C 47 dX7_smells_38 (by decide) (fun c_38 => ?_) (fun c_38 => ?_)
  · skip
    have c_38 := (xn_neT (sp_wind n) 0 c_38 (by omega) (by omega))
    refine x_iload C dX7_smells_47 rfl ?_
    refine x_iconst C (nI 1) dX7_smells_49 rfl ?_
    refine x_icmp_ne C 58 dX7_smells_50 (by decide) (fun c_50 => ?_) (fun c_50 => ?_)
    · skip
      have c_50 := (xn_neT (sp_wind n) 1 c_50 (by omega) (by omega))
      refine x_iload C dX7_smells_58 rfl ?_
      refine x_iconst C (nI 2) dX7_smells_60 rfl ?_
      refine x_icmp_ne C 69 dX7_smells_61 (by decide) (fun c_61 => ?_) (fun c_61 => ?_)
      · skip
        have c_61 := (xn_neT (sp_wind n) 2 c_61 (by omega) (by omega))
        refine x_iload C dX7_smells_69 rfl ?_
        refine x_ineg C dX7_smells_71 ?_
        refine x_istore C dX7_smells_72 (by decide) rfl ?_
        refine x_iload C dX7_smells_74 rfl ?_
        refine x_iconst C (nI 2) dX7_smells_76 rfl ?_
        refine x_irem C dX7_smells_77 (nI_ne0 (by omega) (by omega)) ?_
        refine x_toi (nI ((sp_wind n) % 2)) (pk_rem (by omega) (by omega) (by omega)) ?_
        refine x_if_ne C 86 dX7_smells_78 (by decide) (fun c_78 => ?_) (fun c_78 => ?_)
        · skip
          have c_78 := (xn_neT ((sp_wind n) % 2) 0 c_78 (by omega) (by omega))
          refine x_iload C dX7_smells_86 rfl ?_
          refine x_istore C dX7_smells_88 (by decide) rfl ?_
          refine x_iload C dX7_smells_90 rfl ?_
          refine x_if_ne C 112 dX7_smells_92 (by decide) (fun c_92 => ?_) (fun c_92 => ?_)
          · skip
            refine x_iconst C (nI 0) dX7_smells_112 rfl ?_
            exact x_zret B0 dX7_smells_113 rfl rfl (by exact ⟨by unfold sp_smells sp_along sp_beside; simp_all [bI, nI_0, nI1, nI10, nI2], hM⟩)
          · skip
            refine x_iload C dX7_smells_95 rfl ?_
            refine x_iconst C (nI 1) dX7_smells_97 rfl ?_
            refine x_iload_n C dX7_smells_98 rfl ?_
            refine x_bipush C (nI 10) dX7_smells_99 rfl ?_
            refine x_idiv C dX7_smells_101 (nI_ne0 (by omega) (by omega)) ?_
            refine x_callS (mc' := 0) (ms' := 0) C dX7_smells_102 (c_X7_in hl hM (-((n (16 + 9 * t + 1)) - (n (16 + 9 * f + 1)))) (nI 1) (u / (nI 10))) mf_X7_in q3696 q3697 rfl rfl (Nat.le_of_ble_eq_true rfl) (by decide) rfl rfl (fun r h hP => ?_) (fun _ _ _ hX => False.elim hX)
            obtain ⟨rfl, hM⟩ := hP
            by_cases hb_102 : (nI 1) ≤ (-((n (16 + 9 * t + 1)) - (n (16 + 9 * f + 1)))) ∧ (-((n (16 + 9 * t + 1)) - (n (16 + 9 * f + 1)))) ≤ (u / (nI 10))
            · refine x_toi (nI 1) (bI_t hb_102) ?_
              refine x_if_eq C 112 dX7_smells_105 (by decide) (fun c_105 => ?_) (fun c_105 => ?_)
              · exact absurd c_105 (by decide)
              · skip
                have c_105 := (xn_eqF 1 0 c_105 (by omega) (by omega))
                refine x_iconst C (nI 1) dX7_smells_108 rfl ?_
                refine x_goto C 113 dX7_smells_109 (by decide) ?_
                exact x_zret B0 dX7_smells_113 rfl rfl (by exact ⟨by unfold sp_smells sp_along sp_beside; simp_all [bI, nI_0, nI1, nI10, nI2], hM⟩)
            · refine x_toi (nI 0) (bI_f hb_102) ?_
              refine x_if_eq C 112 dX7_smells_105 (by decide) (fun c_105 => ?_) (fun c_105 => ?_)
              · skip
                have c_105 := (xn_eqT 0 0 c_105 (by omega) (by omega))
                refine x_iconst C (nI 0) dX7_smells_112 rfl ?_
                exact x_zret B0 dX7_smells_113 rfl rfl (by exact ⟨by unfold sp_smells sp_along sp_beside; simp_all [bI, nI_0, nI1, nI10, nI2], hM⟩)
              · exact absurd c_105 (by decide)
        · skip
          have c_78 := (xn_neF ((sp_wind n) % 2) 0 c_78 (by omega) (by omega))
          refine x_iload C dX7_smells_81 rfl ?_
          refine x_goto C 88 dX7_smells_83 (by decide) ?_
          refine x_istore C dX7_smells_88 (by decide) rfl ?_
          refine x_iload C dX7_smells_90 rfl ?_
          refine x_if_ne C 112 dX7_smells_92 (by decide) (fun c_92 => ?_) (fun c_92 => ?_)
          · skip
            refine x_iconst C (nI 0) dX7_smells_112 rfl ?_
            exact x_zret B0 dX7_smells_113 rfl rfl (by exact ⟨by unfold sp_smells sp_along sp_beside; simp_all [bI, nI_0, nI1, nI10, nI2], hM⟩)
          · skip
            refine x_iload C dX7_smells_95 rfl ?_
            refine x_iconst C (nI 1) dX7_smells_97 rfl ?_
            refine x_iload_n C dX7_smells_98 rfl ?_
            refine x_bipush C (nI 10) dX7_smells_99 rfl ?_
            refine x_idiv C dX7_smells_101 (nI_ne0 (by omega) (by omega)) ?_
            refine x_callS (mc' := 0) (ms' := 0) C dX7_smells_102 (c_X7_in hl hM (-((n (16 + 9 * t + 1)) - (n (16 + 9 * f + 1)))) (nI 1) (u / (nI 10))) mf_X7_in q3696 q3697 rfl rfl (Nat.le_of_ble_eq_true rfl) (by decide) rfl rfl (fun r h hP => ?_) (fun _ _ _ hX => False.elim hX)
            obtain ⟨rfl, hM⟩ := hP
            by_cases hb_102 : (nI 1) ≤ (-((n (16 + 9 * t + 1)) - (n (16 + 9 * f + 1)))) ∧ (-((n (16 + 9 * t + 1)) - (n (16 + 9 * f + 1)))) ≤ (u / (nI 10))
            · refine x_toi (nI 1) (bI_t hb_102) ?_
              refine x_if_eq C 112 dX7_smells_105 (by decide) (fun c_105 => ?_) (fun c_105 => ?_)
              · exact absurd c_105 (by decide)
              · skip
                have c_105 := (xn_eqF 1 0 c_105 (by omega) (by omega))
                refine x_iconst C (nI 1) dX7_smells_108 rfl ?_
                refine x_goto C 113 dX7_smells_109 (by decide) ?_
                exact x_zret B0 dX7_smells_113 rfl rfl (by exact ⟨by unfold sp_smells sp_along sp_beside; simp_all [bI, nI_0, nI1, nI10, nI2], hM⟩)
            · refine x_toi (nI 0) (bI_f hb_102) ?_
              refine x_if_eq C 112 dX7_smells_105 (by decide) (fun c_105 => ?_) (fun c_105 => ?_)
              · skip
                have c_105 := (xn_eqT 0 0 c_105 (by omega) (by omega))
                refine x_iconst C (nI 0) dX7_smells_112 rfl ?_
                exact x_zret B0 dX7_smells_113 rfl rfl (by exact ⟨by unfold sp_smells sp_along sp_beside; simp_all [bI, nI_0, nI1, nI10, nI2], hM⟩)
              · exact absurd c_105 (by decide)
      · skip
        have c_61 := (xn_neF (sp_wind n) 2 c_61 (by omega) (by omega))
        refine x_iload C dX7_smells_64 rfl ?_
        refine x_goto C 72 dX7_smells_66 (by decide) ?_
        refine x_istore C dX7_smells_72 (by decide) rfl ?_
        refine x_iload C dX7_smells_74 rfl ?_
        refine x_iconst C (nI 2) dX7_smells_76 rfl ?_
        refine x_irem C dX7_smells_77 (nI_ne0 (by omega) (by omega)) ?_
        refine x_toi (nI ((sp_wind n) % 2)) (pk_rem (by omega) (by omega) (by omega)) ?_
        refine x_if_ne C 86 dX7_smells_78 (by decide) (fun c_78 => ?_) (fun c_78 => ?_)
        · skip
          have c_78 := (xn_neT ((sp_wind n) % 2) 0 c_78 (by omega) (by omega))
          refine x_iload C dX7_smells_86 rfl ?_
          refine x_istore C dX7_smells_88 (by decide) rfl ?_
          refine x_iload C dX7_smells_90 rfl ?_
          refine x_if_ne C 112 dX7_smells_92 (by decide) (fun c_92 => ?_) (fun c_92 => ?_)
          · skip
            refine x_iconst C (nI 0) dX7_smells_112 rfl ?_
            exact x_zret B0 dX7_smells_113 rfl rfl (by exact ⟨by unfold sp_smells sp_along sp_beside; simp_all [bI, nI_0, nI1, nI10, nI2], hM⟩)
          · skip
            refine x_iload C dX7_smells_95 rfl ?_
            refine x_iconst C (nI 1) dX7_smells_97 rfl ?_
            refine x_iload_n C dX7_smells_98 rfl ?_
            refine x_bipush C (nI 10) dX7_smells_99 rfl ?_
            refine x_idiv C dX7_smells_101 (nI_ne0 (by omega) (by omega)) ?_
            refine x_callS (mc' := 0) (ms' := 0) C dX7_smells_102 (c_X7_in hl hM ((n (16 + 9 * t + 2)) - (n (16 + 9 * f + 2))) (nI 1) (u / (nI 10))) mf_X7_in q3696 q3697 rfl rfl (Nat.le_of_ble_eq_true rfl) (by decide) rfl rfl (fun r h hP => ?_) (fun _ _ _ hX => False.elim hX)
            obtain ⟨rfl, hM⟩ := hP
            by_cases hb_102 : (nI 1) ≤ ((n (16 + 9 * t + 2)) - (n (16 + 9 * f + 2))) ∧ ((n (16 + 9 * t + 2)) - (n (16 + 9 * f + 2))) ≤ (u / (nI 10))
            · refine x_toi (nI 1) (bI_t hb_102) ?_
              refine x_if_eq C 112 dX7_smells_105 (by decide) (fun c_105 => ?_) (fun c_105 => ?_)
              · exact absurd c_105 (by decide)
              · skip
                have c_105 := (xn_eqF 1 0 c_105 (by omega) (by omega))
                refine x_iconst C (nI 1) dX7_smells_108 rfl ?_
                refine x_goto C 113 dX7_smells_109 (by decide) ?_
                exact x_zret B0 dX7_smells_113 rfl rfl (by exact ⟨by unfold sp_smells sp_along sp_beside; simp_all [bI, nI_0, nI1, nI10, nI2], hM⟩)
            · refine x_toi (nI 0) (bI_f hb_102) ?_
              refine x_if_eq C 112 dX7_smells_105 (by decide) (fun c_105 => ?_) (fun c_105 => ?_)
              · skip
                have c_105 := (xn_eqT 0 0 c_105 (by omega) (by omega))
                refine x_iconst C (nI 0) dX7_smells_112 rfl ?_
                exact x_zret B0 dX7_smells_113 rfl rfl (by exact ⟨by unfold sp_smells sp_along sp_beside; simp_all [bI, nI_0, nI1, nI10, nI2], hM⟩)
              · exact absurd c_105 (by decide)
        · skip
          have c_78 := (xn_neF ((sp_wind n) % 2) 0 c_78 (by omega) (by omega))
          refine x_iload C dX7_smells_81 rfl ?_
          refine x_goto C 88 dX7_smells_83 (by decide) ?_
          refine x_istore C dX7_smells_88 (by decide) rfl ?_
          refine x_iload C dX7_smells_90 rfl ?_
          refine x_if_ne C 112 dX7_smells_92 (by decide) (fun c_92 => ?_) (fun c_92 => ?_)
          · skip
            refine x_iconst C (nI 0) dX7_smells_112 rfl ?_
            exact x_zret B0 dX7_smells_113 rfl rfl (by exact ⟨by unfold sp_smells sp_along sp_beside; simp_all [bI, nI_0, nI1, nI10, nI2], hM⟩)
          · skip
            refine x_iload C dX7_smells_95 rfl ?_
            refine x_iconst C (nI 1) dX7_smells_97 rfl ?_
            refine x_iload_n C dX7_smells_98 rfl ?_
            refine x_bipush C (nI 10) dX7_smells_99 rfl ?_
            refine x_idiv C dX7_smells_101 (nI_ne0 (by omega) (by omega)) ?_
            refine x_callS (mc' := 0) (ms' := 0) C dX7_smells_102 (c_X7_in hl hM ((n (16 + 9 * t + 2)) - (n (16 + 9 * f + 2))) (nI 1) (u / (nI 10))) mf_X7_in q3696 q3697 rfl rfl (Nat.le_of_ble_eq_true rfl) (by decide) rfl rfl (fun r h hP => ?_) (fun _ _ _ hX => False.elim hX)
            obtain ⟨rfl, hM⟩ := hP
            by_cases hb_102 : (nI 1) ≤ ((n (16 + 9 * t + 2)) - (n (16 + 9 * f + 2))) ∧ ((n (16 + 9 * t + 2)) - (n (16 + 9 * f + 2))) ≤ (u / (nI 10))
            · refine x_toi (nI 1) (bI_t hb_102) ?_
              refine x_if_eq C 112 dX7_smells_105 (by decide) (fun c_105 => ?_) (fun c_105 => ?_)
              · exact absurd c_105 (by decide)
              · skip
                have c_105 := (xn_eqF 1 0 c_105 (by omega) (by omega))
                refine x_iconst C (nI 1) dX7_smells_108 rfl ?_
                refine x_goto C 113 dX7_smells_109 (by decide) ?_
                exact x_zret B0 dX7_smells_113 rfl rfl (by exact ⟨by unfold sp_smells sp_along sp_beside; simp_all [bI, nI_0, nI1, nI10, nI2], hM⟩)
            · refine x_toi (nI 0) (bI_f hb_102) ?_
              refine x_if_eq C 112 dX7_smells_105 (by decide) (fun c_105 => ?_) (fun c_105 => ?_)
              · skip
                have c_105 := (xn_eqT 0 0 c_105 (by omega) (by omega))
                refine x_iconst C (nI 0) dX7_smells_112 rfl ?_
                exact x_zret B0 dX7_smells_113 rfl rfl (by exact ⟨by unfold sp_smells sp_along sp_beside; simp_all [bI, nI_0, nI1, nI10, nI2], hM⟩)
              · exact absurd c_105 (by decide)
    · skip
      have c_50 := (xn_neF (sp_wind n) 1 c_50 (by omega) (by omega))
      refine x_iload C dX7_smells_53 rfl ?_
      refine x_goto C 72 dX7_smells_55 (by decide) ?_
      refine x_istore C dX7_smells_72 (by decide) rfl ?_
      refine x_iload C dX7_smells_74 rfl ?_
      refine x_iconst C (nI 2) dX7_smells_76 rfl ?_
      refine x_irem C dX7_smells_77 (nI_ne0 (by omega) (by omega)) ?_
      refine x_toi (nI ((sp_wind n) % 2)) (pk_rem (by omega) (by omega) (by omega)) ?_
      refine x_if_ne C 86 dX7_smells_78 (by decide) (fun c_78 => ?_) (fun c_78 => ?_)
      · skip
        have c_78 := (xn_neT ((sp_wind n) % 2) 0 c_78 (by omega) (by omega))
        refine x_iload C dX7_smells_86 rfl ?_
        refine x_istore C dX7_smells_88 (by decide) rfl ?_
        refine x_iload C dX7_smells_90 rfl ?_
        refine x_if_ne C 112 dX7_smells_92 (by decide) (fun c_92 => ?_) (fun c_92 => ?_)
        · skip
          refine x_iconst C (nI 0) dX7_smells_112 rfl ?_
          exact x_zret B0 dX7_smells_113 rfl rfl (by exact ⟨by unfold sp_smells sp_along sp_beside; simp_all [bI, nI_0, nI1, nI10, nI2], hM⟩)
        · skip
          refine x_iload C dX7_smells_95 rfl ?_
          refine x_iconst C (nI 1) dX7_smells_97 rfl ?_
          refine x_iload_n C dX7_smells_98 rfl ?_
          refine x_bipush C (nI 10) dX7_smells_99 rfl ?_
          refine x_idiv C dX7_smells_101 (nI_ne0 (by omega) (by omega)) ?_
          refine x_callS (mc' := 0) (ms' := 0) C dX7_smells_102 (c_X7_in hl hM ((n (16 + 9 * t + 1)) - (n (16 + 9 * f + 1))) (nI 1) (u / (nI 10))) mf_X7_in q3696 q3697 rfl rfl (Nat.le_of_ble_eq_true rfl) (by decide) rfl rfl (fun r h hP => ?_) (fun _ _ _ hX => False.elim hX)
          obtain ⟨rfl, hM⟩ := hP
          by_cases hb_102 : (nI 1) ≤ ((n (16 + 9 * t + 1)) - (n (16 + 9 * f + 1))) ∧ ((n (16 + 9 * t + 1)) - (n (16 + 9 * f + 1))) ≤ (u / (nI 10))
          · refine x_toi (nI 1) (bI_t hb_102) ?_
            refine x_if_eq C 112 dX7_smells_105 (by decide) (fun c_105 => ?_) (fun c_105 => ?_)
            · exact absurd c_105 (by decide)
            · skip
              have c_105 := (xn_eqF 1 0 c_105 (by omega) (by omega))
              refine x_iconst C (nI 1) dX7_smells_108 rfl ?_
              refine x_goto C 113 dX7_smells_109 (by decide) ?_
              exact x_zret B0 dX7_smells_113 rfl rfl (by exact ⟨by unfold sp_smells sp_along sp_beside; simp_all [bI, nI_0, nI1, nI10, nI2], hM⟩)
          · refine x_toi (nI 0) (bI_f hb_102) ?_
            refine x_if_eq C 112 dX7_smells_105 (by decide) (fun c_105 => ?_) (fun c_105 => ?_)
            · skip
              have c_105 := (xn_eqT 0 0 c_105 (by omega) (by omega))
              refine x_iconst C (nI 0) dX7_smells_112 rfl ?_
              exact x_zret B0 dX7_smells_113 rfl rfl (by exact ⟨by unfold sp_smells sp_along sp_beside; simp_all [bI, nI_0, nI1, nI10, nI2], hM⟩)
            · exact absurd c_105 (by decide)
      · skip
        have c_78 := (xn_neF ((sp_wind n) % 2) 0 c_78 (by omega) (by omega))
        refine x_iload C dX7_smells_81 rfl ?_
        refine x_goto C 88 dX7_smells_83 (by decide) ?_
        refine x_istore C dX7_smells_88 (by decide) rfl ?_
        refine x_iload C dX7_smells_90 rfl ?_
        refine x_if_ne C 112 dX7_smells_92 (by decide) (fun c_92 => ?_) (fun c_92 => ?_)
        · skip
          refine x_iconst C (nI 0) dX7_smells_112 rfl ?_
          exact x_zret B0 dX7_smells_113 rfl rfl (by exact ⟨by unfold sp_smells sp_along sp_beside; simp_all [bI, nI_0, nI1, nI10, nI2], hM⟩)
        · skip
          refine x_iload C dX7_smells_95 rfl ?_
          refine x_iconst C (nI 1) dX7_smells_97 rfl ?_
          refine x_iload_n C dX7_smells_98 rfl ?_
          refine x_bipush C (nI 10) dX7_smells_99 rfl ?_
          refine x_idiv C dX7_smells_101 (nI_ne0 (by omega) (by omega)) ?_
          refine x_callS (mc' := 0) (ms' := 0) C dX7_smells_102 (c_X7_in hl hM ((n (16 + 9 * t + 1)) - (n (16 + 9 * f + 1))) (nI 1) (u / (nI 10))) mf_X7_in q3696 q3697 rfl rfl (Nat.le_of_ble_eq_true rfl) (by decide) rfl rfl (fun r h hP => ?_) (fun _ _ _ hX => False.elim hX)
          obtain ⟨rfl, hM⟩ := hP
          by_cases hb_102 : (nI 1) ≤ ((n (16 + 9 * t + 1)) - (n (16 + 9 * f + 1))) ∧ ((n (16 + 9 * t + 1)) - (n (16 + 9 * f + 1))) ≤ (u / (nI 10))
          · refine x_toi (nI 1) (bI_t hb_102) ?_
            refine x_if_eq C 112 dX7_smells_105 (by decide) (fun c_105 => ?_) (fun c_105 => ?_)
            · exact absurd c_105 (by decide)
            · skip
              have c_105 := (xn_eqF 1 0 c_105 (by omega) (by omega))
              refine x_iconst C (nI 1) dX7_smells_108 rfl ?_
              refine x_goto C 113 dX7_smells_109 (by decide) ?_
              exact x_zret B0 dX7_smells_113 rfl rfl (by exact ⟨by unfold sp_smells sp_along sp_beside; simp_all [bI, nI_0, nI1, nI10, nI2], hM⟩)
          · refine x_toi (nI 0) (bI_f hb_102) ?_
            refine x_if_eq C 112 dX7_smells_105 (by decide) (fun c_105 => ?_) (fun c_105 => ?_)
            · skip
              have c_105 := (xn_eqT 0 0 c_105 (by omega) (by omega))
              refine x_iconst C (nI 0) dX7_smells_112 rfl ?_
              exact x_zret B0 dX7_smells_113 rfl rfl (by exact ⟨by unfold sp_smells sp_along sp_beside; simp_all [bI, nI_0, nI1, nI10, nI2], hM⟩)
            · exact absurd c_105 (by decide)
  · skip
    have c_38 := (xn_neF (sp_wind n) 0 c_38 (by omega) (by omega))
    refine x_iload C dX7_smells_41 rfl ?_
    refine x_ineg C dX7_smells_43 ?_
    refine x_goto C 72 dX7_smells_44 (by decide) ?_
    refine x_istore C dX7_smells_72 (by decide) rfl ?_
    refine x_iload C dX7_smells_74 rfl ?_
    refine x_iconst C (nI 2) dX7_smells_76 rfl ?_
    refine x_irem C dX7_smells_77 (nI_ne0 (by omega) (by omega)) ?_
    refine x_toi (nI ((sp_wind n) % 2)) (pk_rem (by omega) (by omega) (by omega)) ?_
    refine x_if_ne C 86 dX7_smells_78 (by decide) (fun c_78 => ?_) (fun c_78 => ?_)
    · skip
      have c_78 := (xn_neT ((sp_wind n) % 2) 0 c_78 (by omega) (by omega))
      refine x_iload C dX7_smells_86 rfl ?_
      refine x_istore C dX7_smells_88 (by decide) rfl ?_
      refine x_iload C dX7_smells_90 rfl ?_
      refine x_if_ne C 112 dX7_smells_92 (by decide) (fun c_92 => ?_) (fun c_92 => ?_)
      · skip
        refine x_iconst C (nI 0) dX7_smells_112 rfl ?_
        exact x_zret B0 dX7_smells_113 rfl rfl (by exact ⟨by unfold sp_smells sp_along sp_beside; simp_all [bI, nI_0, nI1, nI10, nI2], hM⟩)
      · skip
        refine x_iload C dX7_smells_95 rfl ?_
        refine x_iconst C (nI 1) dX7_smells_97 rfl ?_
        refine x_iload_n C dX7_smells_98 rfl ?_
        refine x_bipush C (nI 10) dX7_smells_99 rfl ?_
        refine x_idiv C dX7_smells_101 (nI_ne0 (by omega) (by omega)) ?_
        refine x_callS (mc' := 0) (ms' := 0) C dX7_smells_102 (c_X7_in hl hM (-((n (16 + 9 * t + 2)) - (n (16 + 9 * f + 2)))) (nI 1) (u / (nI 10))) mf_X7_in q3696 q3697 rfl rfl (Nat.le_of_ble_eq_true rfl) (by decide) rfl rfl (fun r h hP => ?_) (fun _ _ _ hX => False.elim hX)
        obtain ⟨rfl, hM⟩ := hP
        by_cases hb_102 : (nI 1) ≤ (-((n (16 + 9 * t + 2)) - (n (16 + 9 * f + 2)))) ∧ (-((n (16 + 9 * t + 2)) - (n (16 + 9 * f + 2)))) ≤ (u / (nI 10))
        · refine x_toi (nI 1) (bI_t hb_102) ?_
          refine x_if_eq C 112 dX7_smells_105 (by decide) (fun c_105 => ?_) (fun c_105 => ?_)
          · exact absurd c_105 (by decide)
          · skip
            have c_105 := (xn_eqF 1 0 c_105 (by omega) (by omega))
            refine x_iconst C (nI 1) dX7_smells_108 rfl ?_
            refine x_goto C 113 dX7_smells_109 (by decide) ?_
            exact x_zret B0 dX7_smells_113 rfl rfl (by exact ⟨by unfold sp_smells sp_along sp_beside; simp_all [bI, nI_0, nI1, nI10, nI2], hM⟩)
        · refine x_toi (nI 0) (bI_f hb_102) ?_
          refine x_if_eq C 112 dX7_smells_105 (by decide) (fun c_105 => ?_) (fun c_105 => ?_)
          · skip
            have c_105 := (xn_eqT 0 0 c_105 (by omega) (by omega))
            refine x_iconst C (nI 0) dX7_smells_112 rfl ?_
            exact x_zret B0 dX7_smells_113 rfl rfl (by exact ⟨by unfold sp_smells sp_along sp_beside; simp_all [bI, nI_0, nI1, nI10, nI2], hM⟩)
          · exact absurd c_105 (by decide)
    · skip
      have c_78 := (xn_neF ((sp_wind n) % 2) 0 c_78 (by omega) (by omega))
      refine x_iload C dX7_smells_81 rfl ?_
      refine x_goto C 88 dX7_smells_83 (by decide) ?_
      refine x_istore C dX7_smells_88 (by decide) rfl ?_
      refine x_iload C dX7_smells_90 rfl ?_
      refine x_if_ne C 112 dX7_smells_92 (by decide) (fun c_92 => ?_) (fun c_92 => ?_)
      · skip
        refine x_iconst C (nI 0) dX7_smells_112 rfl ?_
        exact x_zret B0 dX7_smells_113 rfl rfl (by exact ⟨by unfold sp_smells sp_along sp_beside; simp_all [bI, nI_0, nI1, nI10, nI2], hM⟩)
      · skip
        refine x_iload C dX7_smells_95 rfl ?_
        refine x_iconst C (nI 1) dX7_smells_97 rfl ?_
        refine x_iload_n C dX7_smells_98 rfl ?_
        refine x_bipush C (nI 10) dX7_smells_99 rfl ?_
        refine x_idiv C dX7_smells_101 (nI_ne0 (by omega) (by omega)) ?_
        refine x_callS (mc' := 0) (ms' := 0) C dX7_smells_102 (c_X7_in hl hM (-((n (16 + 9 * t + 2)) - (n (16 + 9 * f + 2)))) (nI 1) (u / (nI 10))) mf_X7_in q3696 q3697 rfl rfl (Nat.le_of_ble_eq_true rfl) (by decide) rfl rfl (fun r h hP => ?_) (fun _ _ _ hX => False.elim hX)
        obtain ⟨rfl, hM⟩ := hP
        by_cases hb_102 : (nI 1) ≤ (-((n (16 + 9 * t + 2)) - (n (16 + 9 * f + 2)))) ∧ (-((n (16 + 9 * t + 2)) - (n (16 + 9 * f + 2)))) ≤ (u / (nI 10))
        · refine x_toi (nI 1) (bI_t hb_102) ?_
          refine x_if_eq C 112 dX7_smells_105 (by decide) (fun c_105 => ?_) (fun c_105 => ?_)
          · exact absurd c_105 (by decide)
          · skip
            have c_105 := (xn_eqF 1 0 c_105 (by omega) (by omega))
            refine x_iconst C (nI 1) dX7_smells_108 rfl ?_
            refine x_goto C 113 dX7_smells_109 (by decide) ?_
            exact x_zret B0 dX7_smells_113 rfl rfl (by exact ⟨by unfold sp_smells sp_along sp_beside; simp_all [bI, nI_0, nI1, nI10, nI2], hM⟩)
        · refine x_toi (nI 0) (bI_f hb_102) ?_
          refine x_if_eq C 112 dX7_smells_105 (by decide) (fun c_105 => ?_) (fun c_105 => ?_)
          · skip
            have c_105 := (xn_eqT 0 0 c_105 (by omega) (by omega))
            refine x_iconst C (nI 0) dX7_smells_112 rfl ?_
            exact x_zret B0 dX7_smells_113 rfl rfl (by exact ⟨by unfold sp_smells sp_along sp_beside; simp_all [bI, nI_0, nI1, nI10, nI2], hM⟩)
          · exact absurd c_105 (by decide)
theorem c_X7_logs {G : xG} {l : Launch} (hl : l.stackTraces = false) {m : Nat} {A : Nat → Nat} {F n : Nat → Int32} {B : Nat → Nat → Int32} {h0 h : xAH} (hM : MW m A F n B h0 h) {S Gn Cn T : Nat} (hI : Ginv n S Gn Cn T) (c : Nat) (load late : Int32) (hc : c < 6) (ha : late = 0 ∨ late = 1) : xM G l yX7_logs cX7_logs 5 (Option.none : Option Jvm.ClassFile.FieldType) [] 1 0 0 [.ref m, .int (nI c), .int load, .int late] h (fun r h2 => r = none ∧ MW m A F (sp_log n c load late) B h0 h2) xNo := by
  refine xcode_start (by decide) (Nat.le_of_ble_eq_true rfl) hl ?_
  intro E hE B0
  subst hE
  have C := B0.1
  have hS8 := hI.S8; have hG6 := hI.G6; have hC6 := hI.C6; have hT := hI.T0
  show xW G E 5 0 0 h 0 [(0, .ref m), (1, .int (nI c)), (2, .int load), (3, .int late)] []
  refine x_aload_n C dX7_logs_0 rfl ?_
  refine m_getN C dX7_logs_1 fl_X7_7_6 hM ?_
  refine x_bipush C (nI 15) dX7_logs_4 rfl ?_
  refine m_ldN C dX7_logs_6 hM (j := 15) rfl (by omega) ?_
  have hb_6 := hI.q.2
  refine x_toi (nI (cn (n 15))) hI.q.1 ?_
  refine x_bipush C (nI 10) dX7_logs_7 rfl ?_
  refine x_icmp_ne C 58 dX7_logs_9 (by decide) (fun c_9 => ?_) (fun c_9 => ?_)
  · skip
    have c_9 := (xn_neT (cn (n 15)) 10 c_9 (by omega) (by omega))
    have e0 : sp_log0 n = n := by unfold sp_log0; rw [if_neg c_9]
    have hI0 : Ginv n S Gn Cn T := by rw [← e0]; exact hI.log0.1
    have hq0 : cn (n 15) < 10 := by rw [← e0]; exact hI.log0.2
    refine x_sipush C (nI 172) dX7_logs_58 rfl ?_
    refine x_iconst C (nI 4) dX7_logs_61 rfl ?_
    refine x_aload_n C dX7_logs_62 rfl ?_
    refine m_getN C dX7_logs_63 fl_X7_7_6 hM ?_
    refine x_bipush C (nI 15) dX7_logs_66 rfl ?_
    refine m_ldN C dX7_logs_68 hM (j := 15) rfl (by omega) ?_
    have hb_68 := hI0.q.2
    refine x_toi (nI (cn (n 15))) hI0.q.1 ?_
    refine x_imul C dX7_logs_69 ?_
    refine x_toi (nI (4 * (cn (n 15)))) (pk_mul _ _) ?_
    refine x_iadd C dX7_logs_70 ?_
    refine x_toi (nI (172 + (4 * (cn (n 15))))) (nI_add _ _) ?_
    refine x_istore C dX7_logs_71 (by decide) rfl ?_
    refine x_aload_n C dX7_logs_73 rfl ?_
    refine m_getN C dX7_logs_74 fl_X7_7_6 hM ?_
    refine x_iload C dX7_logs_77 rfl ?_
    refine x_aload_n C dX7_logs_79 rfl ?_
    refine m_getN C dX7_logs_80 fl_X7_7_6 hM ?_
    refine x_iconst C (nI 5) dX7_logs_83 rfl ?_
    refine m_ldN C dX7_logs_84 hM (j := 5) rfl (by omega) ?_
    refine m_stN C dX7_logs_85 hM (j := 172 + (4 * (cn (n 15)))) rfl (by omega) (fun h hM => ?_)
    obtain ⟨n1, en1, hM⟩ := MW.nameN hM
    refine x_aload_n C dX7_logs_86 rfl ?_
    refine m_getN C dX7_logs_87 fl_X7_7_6 hM ?_
    refine x_iload C dX7_logs_90 rfl ?_
    refine x_iconst C (nI 1) dX7_logs_92 rfl ?_
    refine x_iadd C dX7_logs_93 ?_
    refine x_toi (nI ((172 + (4 * (cn (n 15)))) + 1)) (nI_add _ _) ?_
    refine x_iload_n C dX7_logs_94 rfl ?_
    refine m_stN C dX7_logs_95 hM (j := (172 + (4 * (cn (n 15)))) + 1) rfl (by omega) (fun h hM => ?_)
    obtain ⟨n2, en2, hM⟩ := MW.nameN hM
    refine x_aload_n C dX7_logs_96 rfl ?_
    refine m_getN C dX7_logs_97 fl_X7_7_6 hM ?_
    refine x_iload C dX7_logs_100 rfl ?_
    refine x_iconst C (nI 2) dX7_logs_102 rfl ?_
    refine x_iadd C dX7_logs_103 ?_
    refine x_toi (nI ((172 + (4 * (cn (n 15)))) + 2)) (nI_add _ _) ?_
    refine x_iload_n C dX7_logs_104 rfl ?_
    refine m_stN C dX7_logs_105 hM (j := (172 + (4 * (cn (n 15)))) + 2) rfl (by omega) (fun h hM => ?_)
    obtain ⟨n3, en3, hM⟩ := MW.nameN hM
    refine x_aload_n C dX7_logs_106 rfl ?_
    refine m_getN C dX7_logs_107 fl_X7_7_6 hM ?_
    refine x_iload C dX7_logs_110 rfl ?_
    refine x_iconst C (nI 3) dX7_logs_112 rfl ?_
    refine x_iadd C dX7_logs_113 ?_
    refine x_toi (nI ((172 + (4 * (cn (n 15)))) + 3)) (nI_add _ _) ?_
    refine x_iload_n C dX7_logs_114 rfl ?_
    refine x_if_eq C 122 dX7_logs_115 (by decide) (fun c_115 => ?_) (fun c_115 => ?_)
    · skip
      have el : late = nI 0 := c_115
      refine x_iconst C (nI 0) dX7_logs_122 rfl ?_
      refine m_stN C dX7_logs_123 hM (j := (172 + (4 * (cn (n 15)))) + 3) rfl (by omega) (fun h hM => ?_)
      obtain ⟨n4, en4, hM⟩ := MW.nameN hM
      refine x_aload_n C dX7_logs_124 rfl ?_
      refine m_getN C dX7_logs_125 fl_X7_7_6 hM ?_
      refine x_bipush C (nI 15) dX7_logs_128 rfl ?_
      refine x_dup2 C dX7_logs_130 rfl rfl ?_
      refine m_ldN C dX7_logs_131 hM (j := 15) rfl (by omega) ?_
      refine x_iconst C (nI 1) dX7_logs_132 rfl ?_
      refine x_iadd C dX7_logs_133 ?_
      refine m_stN C dX7_logs_134 hM (j := 15) rfl (by omega) (fun h hM => ?_)
      obtain ⟨n5, en5, hM⟩ := MW.nameN hM
      exact x_ret B0 dX7_logs_135 rfl (by subst en5; subst en4; subst en3; subst en2; subst en1; rw [el]; unfold sp_log; rw [e0]; exact ⟨rfl, hM⟩)
    · skip
      have el : late = nI 1 := by rcases ha with q | q; exact absurd q c_115; exact q
      refine x_iconst C (nI 1) dX7_logs_118 rfl ?_
      refine x_goto C 123 dX7_logs_119 (by decide) ?_
      refine m_stN C dX7_logs_123 hM (j := (172 + (4 * (cn (n 15)))) + 3) rfl (by omega) (fun h hM => ?_)
      obtain ⟨n6, en6, hM⟩ := MW.nameN hM
      refine x_aload_n C dX7_logs_124 rfl ?_
      refine m_getN C dX7_logs_125 fl_X7_7_6 hM ?_
      refine x_bipush C (nI 15) dX7_logs_128 rfl ?_
      refine x_dup2 C dX7_logs_130 rfl rfl ?_
      refine m_ldN C dX7_logs_131 hM (j := 15) rfl (by omega) ?_
      refine x_iconst C (nI 1) dX7_logs_132 rfl ?_
      refine x_iadd C dX7_logs_133 ?_
      refine m_stN C dX7_logs_134 hM (j := 15) rfl (by omega) (fun h hM => ?_)
      obtain ⟨n7, en7, hM⟩ := MW.nameN hM
      exact x_ret B0 dX7_logs_135 rfl (by subst en7; subst en6; subst en3; subst en2; subst en1; rw [el]; unfold sp_log; rw [e0]; exact ⟨rfl, hM⟩)
  · skip
    have c_9 := (xn_neF (cn (n 15)) 10 c_9 (by omega) (by omega))
    refine x_sipush C (nI 172) dX7_logs_12 rfl ?_
    refine x_istore C dX7_logs_15 (by decide) rfl ?_
    have L17 : ∀ (d : Nat) (k : Nat), 208 - k = d → k ≤ 208 → 172 ≤ k → ∀ h, MW m A F (sp_shift n k) B h0 h → xW G E 5 0 0 h 17 [(0, .ref m), (1, .int (nI c)), (2, .int load), (3, .int late), (4, .int (nI k))] [] := by
      intro d
      induction d using Nat.strongRecOn with | _ d ih17 => ?_
      intro k hd17 hk hk2 h hM
      refine x_iload C dX7_logs_17 rfl ?_
      refine x_sipush C (nI 208) dX7_logs_19 rfl ?_
      refine x_icmp_ge C 47 dX7_logs_22 (by decide) (fun c_22 => ?_) (fun c_22 => ?_)
      · skip
        have c_22 := (xn_geT k 208 c_22 (by omega) (by omega))
        obtain rfl : k = 208 := by omega
        refine x_aload_n C dX7_logs_47 rfl ?_
        refine m_getN C dX7_logs_48 fl_X7_7_6 hM ?_
        refine x_bipush C (nI 15) dX7_logs_51 rfl ?_
        refine x_dup2 C dX7_logs_53 rfl rfl ?_
        refine m_ldN C dX7_logs_54 hM (j := 15) rfl (by omega) ?_
        refine x_iconst C (nI 1) dX7_logs_55 rfl ?_
        refine x_isub C dX7_logs_56 ?_
        refine m_stN C dX7_logs_57 hM (j := 15) rfl (by omega) (fun h hM => ?_)
        obtain ⟨n8, en8, hM⟩ := MW.nameN hM
        have e0 : sp_log0 n = n8 := by rw [en8]; unfold sp_log0; rw [if_pos c_9]; congr 1; show nI 9 = n 15 - nI 1; rw [hI.q.1, c_9]; rfl
        have hI0 : Ginv n8 S Gn Cn T := by rw [← e0]; exact hI.log0.1
        have hq0 : cn (n8 15) < 10 := by rw [← e0]; exact hI.log0.2
        refine x_sipush C (nI 172) dX7_logs_58 rfl ?_
        refine x_iconst C (nI 4) dX7_logs_61 rfl ?_
        refine x_aload_n C dX7_logs_62 rfl ?_
        refine m_getN C dX7_logs_63 fl_X7_7_6 hM ?_
        refine x_bipush C (nI 15) dX7_logs_66 rfl ?_
        refine m_ldN C dX7_logs_68 hM (j := 15) rfl (by omega) ?_
        have hb_68 := hI0.q.2
        refine x_toi (nI (cn (n8 15))) hI0.q.1 ?_
        refine x_imul C dX7_logs_69 ?_
        refine x_toi (nI (4 * (cn (n8 15)))) (pk_mul _ _) ?_
        refine x_iadd C dX7_logs_70 ?_
        refine x_toi (nI (172 + (4 * (cn (n8 15))))) (nI_add _ _) ?_
        refine x_istore C dX7_logs_71 (by decide) rfl ?_
        refine x_aload_n C dX7_logs_73 rfl ?_
        refine m_getN C dX7_logs_74 fl_X7_7_6 hM ?_
        refine x_iload C dX7_logs_77 rfl ?_
        refine x_aload_n C dX7_logs_79 rfl ?_
        refine m_getN C dX7_logs_80 fl_X7_7_6 hM ?_
        refine x_iconst C (nI 5) dX7_logs_83 rfl ?_
        refine m_ldN C dX7_logs_84 hM (j := 5) rfl (by omega) ?_
        refine m_stN C dX7_logs_85 hM (j := 172 + (4 * (cn (n8 15)))) rfl (by omega) (fun h hM => ?_)
        obtain ⟨n9, en9, hM⟩ := MW.nameN hM
        refine x_aload_n C dX7_logs_86 rfl ?_
        refine m_getN C dX7_logs_87 fl_X7_7_6 hM ?_
        refine x_iload C dX7_logs_90 rfl ?_
        refine x_iconst C (nI 1) dX7_logs_92 rfl ?_
        refine x_iadd C dX7_logs_93 ?_
        refine x_toi (nI ((172 + (4 * (cn (n8 15)))) + 1)) (nI_add _ _) ?_
        refine x_iload_n C dX7_logs_94 rfl ?_
        refine m_stN C dX7_logs_95 hM (j := (172 + (4 * (cn (n8 15)))) + 1) rfl (by omega) (fun h hM => ?_)
        obtain ⟨n10, en10, hM⟩ := MW.nameN hM
        refine x_aload_n C dX7_logs_96 rfl ?_
        refine m_getN C dX7_logs_97 fl_X7_7_6 hM ?_
        refine x_iload C dX7_logs_100 rfl ?_
        refine x_iconst C (nI 2) dX7_logs_102 rfl ?_
        refine x_iadd C dX7_logs_103 ?_
        refine x_toi (nI ((172 + (4 * (cn (n8 15)))) + 2)) (nI_add _ _) ?_
        refine x_iload_n C dX7_logs_104 rfl ?_
        refine m_stN C dX7_logs_105 hM (j := (172 + (4 * (cn (n8 15)))) + 2) rfl (by omega) (fun h hM => ?_)
        obtain ⟨n11, en11, hM⟩ := MW.nameN hM
        refine x_aload_n C dX7_logs_106 rfl ?_
        refine m_getN C dX7_logs_107 fl_X7_7_6 hM ?_
        refine x_iload C dX7_logs_110 rfl ?_
        refine x_iconst C (nI 3) dX7_logs_112 rfl ?_
        refine x_iadd C dX7_logs_113 ?_
        refine x_toi (nI ((172 + (4 * (cn (n8 15)))) + 3)) (nI_add _ _) ?_
        refine x_iload_n C dX7_logs_114 rfl ?_
        refine x_if_eq C 122 dX7_logs_115 (by decide) (fun c_115 => ?_) (fun c_115 => ?_)
        · skip
          have el : late = nI 0 := c_115
          refine x_iconst C (nI 0) dX7_logs_122 rfl ?_
          refine m_stN C dX7_logs_123 hM (j := (172 + (4 * (cn (n8 15)))) + 3) rfl (by omega) (fun h hM => ?_)
          obtain ⟨n12, en12, hM⟩ := MW.nameN hM
          refine x_aload_n C dX7_logs_124 rfl ?_
          refine m_getN C dX7_logs_125 fl_X7_7_6 hM ?_
          refine x_bipush C (nI 15) dX7_logs_128 rfl ?_
          refine x_dup2 C dX7_logs_130 rfl rfl ?_
          refine m_ldN C dX7_logs_131 hM (j := 15) rfl (by omega) ?_
          refine x_iconst C (nI 1) dX7_logs_132 rfl ?_
          refine x_iadd C dX7_logs_133 ?_
          refine m_stN C dX7_logs_134 hM (j := 15) rfl (by omega) (fun h hM => ?_)
          obtain ⟨n13, en13, hM⟩ := MW.nameN hM
          exact x_ret B0 dX7_logs_135 rfl (by subst en13; subst en12; subst en11; subst en10; subst en9; subst en8; rw [el]; unfold sp_log; rw [e0]; exact ⟨rfl, hM⟩)
        · skip
          have el : late = nI 1 := by rcases ha with q | q; exact absurd q c_115; exact q
          refine x_iconst C (nI 1) dX7_logs_118 rfl ?_
          refine x_goto C 123 dX7_logs_119 (by decide) ?_
          refine m_stN C dX7_logs_123 hM (j := (172 + (4 * (cn (n8 15)))) + 3) rfl (by omega) (fun h hM => ?_)
          obtain ⟨n14, en14, hM⟩ := MW.nameN hM
          refine x_aload_n C dX7_logs_124 rfl ?_
          refine m_getN C dX7_logs_125 fl_X7_7_6 hM ?_
          refine x_bipush C (nI 15) dX7_logs_128 rfl ?_
          refine x_dup2 C dX7_logs_130 rfl rfl ?_
          refine m_ldN C dX7_logs_131 hM (j := 15) rfl (by omega) ?_
          refine x_iconst C (nI 1) dX7_logs_132 rfl ?_
          refine x_iadd C dX7_logs_133 ?_
          refine m_stN C dX7_logs_134 hM (j := 15) rfl (by omega) (fun h hM => ?_)
          obtain ⟨n15, en15, hM⟩ := MW.nameN hM
          exact x_ret B0 dX7_logs_135 rfl (by subst en15; subst en14; subst en11; subst en10; subst en9; subst en8; rw [el]; unfold sp_log; rw [e0]; exact ⟨rfl, hM⟩)
      · skip
        have c_22 := (xn_geF k 208 c_22 (by omega) (by omega))
        refine x_aload_n C dX7_logs_25 rfl ?_
        refine m_getN C dX7_logs_26 fl_X7_7_6 hM ?_
        refine x_iload C dX7_logs_29 rfl ?_
        refine x_aload_n C dX7_logs_31 rfl ?_
        refine m_getN C dX7_logs_32 fl_X7_7_6 hM ?_
        refine x_iload C dX7_logs_35 rfl ?_
        refine x_iconst C (nI 4) dX7_logs_37 rfl ?_
        refine x_iadd C dX7_logs_38 ?_
        refine x_toi (nI (k + 4)) (nI_add _ _) ?_
        refine m_ldN C dX7_logs_39 hM (j := k + 4) rfl (by omega) ?_
        refine m_stN C dX7_logs_40 hM (j := k) rfl (by omega) (fun h hM => ?_)
        obtain ⟨n16, en16, hM⟩ := MW.nameN hM
        refine x_iinc C (nI (k + 1)) dX7_logs_41 rfl (nI_add _ 1) (by decide) rfl ?_
        refine x_goto C 17 dX7_logs_44 (by decide) ?_
        refine x_locs2 [(0, .ref m), (1, .int (nI c)), (2, .int load), (3, .int late), (4, .int (nI (k + 1)))] ⟨rfl, rfl, rfl, rfl, rfl, trivial⟩ ?_
        exact ih17 _ (by omega) (k + 1) rfl (by omega) (by omega) h (by subst en16; rw [sp_shift_s n (by omega)]; exact hM)
    refine x_locs2 [(0, .ref m), (1, .int (nI c)), (2, .int load), (3, .int late), (4, .int (nI 172))] ⟨rfl, rfl, rfl, rfl, rfl, trivial⟩ ?_
    exact L17 _ 172 rfl (by omega) (by omega) h (by rw [sp_shift_0]; exact hM)
