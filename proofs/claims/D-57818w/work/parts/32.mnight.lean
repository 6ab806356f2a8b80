/-! ===== the reference: the night, its rest ===== -/
theorem c_X7_blooms {G : xG} {l : Launch} (hl : l.stackTraces = false) {m : Nat} {A : Nat → Nat} {F n : Nat → Int32} {B : Nat → Nat → Int32} {h0 h : xAH} (hM : MW m A F n B h0 h) (g : Nat) (hg : g < 6) : xM G l yX7_blooms cX7_blooms 4 (Option.none : Option Jvm.ClassFile.FieldType) [] 2 0 0 [.ref m, .int (nI g)] h (fun r h2 => r = none ∧ MW m A F (sp_bloom n g) B h0 h2) xNo := by
  refine xcode_start (by decide) (Nat.le_of_ble_eq_true rfl) hl ?_
  intro E hE B0
  subst hE
  have C := B0.1
  show xW G E 4 0 0 h 0 [(0, .ref m), (1, .int (nI g))] []
  refine x_aload_n C dX7_blooms_0 rfl ?_
  refine x_iload_n C dX7_blooms_1 rfl ?_
  refine x_iconst C (nI 3) dX7_blooms_2 rfl ?_
  refine x_callV (mc' := 0) (ms' := 0) C dX7_blooms_3 (c_X7_ofG hl hM g 3 (by omega)) mf_X7_ofG q3762 q3764 qs80 (Or.inl hM.1) rfl rfl rfl (Nat.le_of_ble_eq_true rfl) (by decide) rfl rfl (fun r h hP => ?_) (fun _ _ _ hX => False.elim hX)
  obtain ⟨rfl, hM⟩ := hP
  refine x_aload_n C dX7_blooms_6 rfl ?_
  refine x_iload_n C dX7_blooms_7 rfl ?_
  refine x_iconst C (nI 4) dX7_blooms_8 rfl ?_
  refine x_callV (mc' := 0) (ms' := 0) C dX7_blooms_9 (c_X7_ofG hl hM g 4 (by omega)) mf_X7_ofG q3762 q3764 qs80 (Or.inl hM.1) rfl rfl rfl (Nat.le_of_ble_eq_true rfl) (by decide) rfl rfl (fun r h hP => ?_) (fun _ _ _ hX => False.elim hX)
  obtain ⟨rfl, hM⟩ := hP
  refine x_min C dX7_blooms_12 q3699 q437 q155 q438 (by decide) (Nat.le_of_ble_eq_true rfl) ?_
  refine x_istore_n C dX7_blooms_15 (by decide) rfl ?_
  refine x_aload_n C dX7_blooms_16 rfl ?_
  refine x_iload_n C dX7_blooms_17 rfl ?_
  refine x_iconst C (nI 4) dX7_blooms_18 rfl ?_
  refine x_iload_n C dX7_blooms_19 rfl ?_
  refine x_ineg C dX7_blooms_20 ?_
  refine x_callV (mc' := 0) (ms' := 0) C dX7_blooms_21 (c_X7_addG hl hM g 4 (-(imin (n (88 + 9 * g + 3)) (n (88 + 9 * g + 4)))) (by omega)) mf_X7_addG q4041 q4043 qs115 (Or.inl hM.1) rfl rfl rfl (Nat.le_of_ble_eq_true rfl) (by decide) rfl rfl (fun r h hP => ?_) (fun _ _ _ hX => False.elim hX)
  obtain ⟨rfl, hM⟩ := hP
  obtain ⟨n1, en1, hM⟩ := MW.nameN hM
  refine x_aload_n C dX7_blooms_24 rfl ?_
  refine x_iload_n C dX7_blooms_25 rfl ?_
  refine x_iconst C (nI 5) dX7_blooms_26 rfl ?_
  refine x_iload_n C dX7_blooms_27 rfl ?_
  refine x_callV (mc' := 0) (ms' := 0) C dX7_blooms_28 (c_X7_addG hl hM g 5 (imin (n (88 + 9 * g + 3)) (n (88 + 9 * g + 4))) (by omega)) mf_X7_addG q4041 q4043 qs115 (Or.inl hM.1) rfl rfl rfl (Nat.le_of_ble_eq_true rfl) (by decide) rfl rfl (fun r h hP => ?_) (fun _ _ _ hX => False.elim hX)
  obtain ⟨rfl, hM⟩ := hP
  obtain ⟨n2, en2, hM⟩ := MW.nameN hM
  refine x_aload_n C dX7_blooms_31 rfl ?_
  refine x_iload_n C dX7_blooms_32 rfl ?_
  refine x_bipush C (nI 6) dX7_blooms_33 rfl ?_
  refine x_iload_n C dX7_blooms_35 rfl ?_
  refine x_callV (mc' := 0) (ms' := 0) C dX7_blooms_36 (c_X7_addG hl hM g 6 (imin (n (88 + 9 * g + 3)) (n (88 + 9 * g + 4))) (by omega)) mf_X7_addG q4041 q4043 qs115 (Or.inl hM.1) rfl rfl rfl (Nat.le_of_ble_eq_true rfl) (by decide) rfl rfl (fun r h hP => ?_) (fun _ _ _ hX => False.elim hX)
  obtain ⟨rfl, hM⟩ := hP
  obtain ⟨n3, en3, hM⟩ := MW.nameN hM
  refine x_iconst C (nI 0) dX7_blooms_39 rfl ?_
  refine x_aload_n C dX7_blooms_40 rfl ?_
  refine x_iload_n C dX7_blooms_41 rfl ?_
  refine x_iconst C (nI 4) dX7_blooms_42 rfl ?_
  refine x_callV (mc' := 0) (ms' := 0) C dX7_blooms_43 (c_X7_ofG hl hM g 4 (by omega)) mf_X7_ofG q3762 q3764 qs80 (Or.inl hM.1) rfl rfl rfl (Nat.le_of_ble_eq_true rfl) (by decide) rfl rfl (fun r h hP => ?_) (fun _ _ _ hX => False.elim hX)
  obtain ⟨rfl, hM⟩ := hP
  refine x_iconst C (nI 3) dX7_blooms_46 rfl ?_
  refine x_aload_n C dX7_blooms_47 rfl ?_
  refine x_iload_n C dX7_blooms_48 rfl ?_
  refine x_iconst C (nI 3) dX7_blooms_49 rfl ?_
  refine x_callV (mc' := 0) (ms' := 0) C dX7_blooms_50 (c_X7_ofG hl hM g 3 (by omega)) mf_X7_ofG q3762 q3764 qs80 (Or.inl hM.1) rfl rfl rfl (Nat.le_of_ble_eq_true rfl) (by decide) rfl rfl (fun r h hP => ?_) (fun _ _ _ hX => False.elim hX)
  obtain ⟨rfl, hM⟩ := hP
  refine x_imul C dX7_blooms_53 ?_
  refine x_isub C dX7_blooms_54 ?_
  refine x_max C dX7_blooms_55 q4028 q419 q155 q420 (by decide) (Nat.le_of_ble_eq_true rfl) ?_
  refine x_istore_n C dX7_blooms_58 (by decide) rfl ?_
  refine x_aload_n C dX7_blooms_59 rfl ?_
  refine x_iload_n C dX7_blooms_60 rfl ?_
  refine x_iconst C (nI 4) dX7_blooms_61 rfl ?_
  refine x_iload_n C dX7_blooms_62 rfl ?_
  refine x_ineg C dX7_blooms_63 ?_
  refine x_callV (mc' := 0) (ms' := 0) C dX7_blooms_64 (c_X7_addG hl hM g 4 (-(imax (nI 0) ((n3 (88 + 9 * g + 4)) - ((nI 3) * (n3 (88 + 9 * g + 3)))))) (by omega)) mf_X7_addG q4041 q4043 qs115 (Or.inl hM.1) rfl rfl rfl (Nat.le_of_ble_eq_true rfl) (by decide) rfl rfl (fun r h hP => ?_) (fun _ _ _ hX => False.elim hX)
  obtain ⟨rfl, hM⟩ := hP
  obtain ⟨n4, en4, hM⟩ := MW.nameN hM
  refine x_aload_n C dX7_blooms_67 rfl ?_
  refine x_iload_n C dX7_blooms_68 rfl ?_
  refine x_bipush C (nI 7) dX7_blooms_69 rfl ?_
  refine x_iload_n C dX7_blooms_71 rfl ?_
  refine x_callV (mc' := 0) (ms' := 0) C dX7_blooms_72 (c_X7_addG hl hM g 7 (imax (nI 0) ((n3 (88 + 9 * g + 4)) - ((nI 3) * (n3 (88 + 9 * g + 3))))) (by omega)) mf_X7_addG q4041 q4043 qs115 (Or.inl hM.1) rfl rfl rfl (Nat.le_of_ble_eq_true rfl) (by decide) rfl rfl (fun r h hP => ?_) (fun _ _ _ hX => False.elim hX)
  obtain ⟨rfl, hM⟩ := hP
  obtain ⟨n5, en5, hM⟩ := MW.nameN hM
  exact x_ret B0 dX7_blooms_75 rfl (by subst en5; subst en4; subst en3; subst en2; subst en1; exact ⟨rfl, hM⟩)
theorem c_X7_leads {G : xG} {l : Launch} (hl : l.stackTraces = false) {m : Nat} {A : Nat → Nat} {F n : Nat → Int32} {B : Nat → Nat → Int32} {h0 h : xAH} (hM : MW m A F n B h0 h) {S Gn Cn T : Nat} (hI : Ginv n S Gn Cn T)  : xM G l yX7_leads cX7_leads 3 (Option.some Jvm.ClassFile.FieldType.int) [] 2 0 0 [.ref m] h (fun r h2 => r = some (.int (oI (sp_best n Gn))) ∧ MW m A F n B h0 h2) xNo := by
  refine xcode_start (by decide) (Nat.le_of_ble_eq_true rfl) hl ?_
  intro E hE B0
  subst hE
  have C := B0.1
  have hS8 := hI.S8; have hG6 := hI.G6; have hC6 := hI.C6; have hT := hI.T0
  show xW G E 3 0 0 h 0 [(0, .ref m)] []
  refine x_iconst C (-1) dX7_leads_0 rfl ?_
  refine x_istore_n C dX7_leads_1 (by decide) rfl ?_
  refine x_iconst C (nI 0) dX7_leads_2 rfl ?_
  refine x_istore_n C dX7_leads_3 (by decide) rfl ?_
  have L4 : ∀ (d : Nat) (k : Nat), Gn - k = d → k ≤ Gn → ∀ h, MW m A F n B h0 h → xW G E 3 0 0 h 4 [(0, .ref m), (1, .int (oI (sp_best n k))), (2, .int (nI k))] [] := by
    intro d
    induction d using Nat.strongRecOn with | _ d ih4 => ?_
    intro k hd4 hk h hM
    refine x_iload_n C dX7_leads_4 rfl ?_
    refine x_aload_n C dX7_leads_5 rfl ?_
    refine m_getN C dX7_leads_6 fl_X7_7_6 hM ?_
    refine x_bipush C (nI 7) dX7_leads_9 rfl ?_
    refine m_ldN C dX7_leads_11 hM (j := 7) rfl (by omega) ?_
    refine x_toi (nI Gn) hI.g ?_
    refine x_icmp_ge C 49 dX7_leads_12 (by decide) (fun c_12 => ?_) (fun c_12 => ?_)
    · skip
      have c_12 := (xn_geT k Gn c_12 (by omega) (by omega))
      obtain rfl : Gn = k := (by omega)
      refine x_iload_n C dX7_leads_49 rfl ?_
      exact x_iret B0 dX7_leads_50 rfl (⟨rfl, hM⟩)
    · skip
      have c_12 := (xn_geF k Gn c_12 (by omega) (by omega))
      have J43 : ∀ (x : Int32), x = oI (sp_best n (k + 1)) → ∀ h, MW m A F n B h0 h → xW G E 3 0 0 h 43 [(0, .ref m), (1, .int x), (2, .int (nI k))] [] := by
        intro x ex h hM
        refine x_iinc C (nI (k + 1)) dX7_leads_43 rfl (nI_add _ 1) (by decide) rfl ?_
        subst ex
        refine x_goto C 4 dX7_leads_46 (by decide) ?_
        refine x_locs2 [(0, .ref m), (1, .int (oI (sp_best n (k + 1)))), (2, .int (nI (k + 1)))] ⟨rfl, rfl, rfl, trivial⟩ ?_
        exact ih4 _ (by omega) (k + 1) rfl (by omega) h (by exact hM)
      have J38 : ∀ (v : Int32), v = sp_bv n (sp_best n k) → ∀ h, MW m A F n B h0 h → xW G E 3 0 0 h 38 [(0, .ref m), (1, .int (oI (sp_best n k))), (2, .int (nI k))] [.int v, .int (n (88 + 9 * k + 6))] := by
        intro v hv h hM
        refine x_icmp_le C 43 dX7_leads_38 (by decide) (fun c_38 => ?_) (fun c_38 => ?_)
        · skip
          refine x_locs2 [(0, .ref m), (1, .int (oI (sp_best n k))), (2, .int (nI k))] ⟨rfl, rfl, rfl, trivial⟩ ?_
          exact J43 (oI (sp_best n k)) (by first | exact (sp_best_T hv c_38).symm | exact (sp_best_F hv c_38).symm) h (by exact hM)
        · skip
          refine x_iload_n C dX7_leads_41 rfl ?_
          refine x_istore_n C dX7_leads_42 (by decide) rfl ?_
          refine x_locs2 [(0, .ref m), (1, .int (nI k)), (2, .int (nI k))] ⟨rfl, rfl, rfl, trivial⟩ ?_
          exact J43 (nI k) (by first | exact (sp_best_T hv c_38).symm | exact (sp_best_F hv c_38).symm) h (by exact hM)
      refine x_aload_n C dX7_leads_15 rfl ?_
      refine x_iload_n C dX7_leads_16 rfl ?_
      refine x_bipush C (nI 6) dX7_leads_17 rfl ?_
      refine x_callV (mc' := 0) (ms' := 0) C dX7_leads_19 (c_X7_ofG hl hM k 6 (by omega)) mf_X7_ofG q3762 q3764 qs80 (Or.inl hM.1) rfl rfl rfl (Nat.le_of_ble_eq_true rfl) (by decide) rfl rfl (fun r h hP => ?_) (fun _ _ _ hX => False.elim hX)
      obtain ⟨rfl, hM⟩ := hP
      refine x_iload_n C dX7_leads_22 rfl ?_
      refine x_iconst C (-1) dX7_leads_23 rfl ?_
      refine x_icmp_ne C 31 dX7_leads_24 (by decide) (fun c_24 => ?_) (fun c_24 => ?_)
      · skip
        obtain ⟨j, ej, hj⟩ := oI_some (n := n) (k := k) c_24
        refine x_aload_n C dX7_leads_31 rfl ?_
        refine x_iload_n C dX7_leads_32 rfl ?_
        refine x_toi (nI j) (by rw [ej]; rfl) ?_
        have hvj : n (88 + 9 * j + 6) = sp_bv n (sp_best n k) := by rw [ej]; rfl
        refine x_bipush C (nI 6) dX7_leads_33 rfl ?_
        refine x_callV (mc' := 0) (ms' := 0) C dX7_leads_35 (c_X7_ofG hl hM j 6 (by omega)) mf_X7_ofG q3762 q3764 qs80 (Or.inl hM.1) rfl rfl rfl (Nat.le_of_ble_eq_true rfl) (by decide) rfl rfl (fun r h hP => ?_) (fun _ _ _ hX => False.elim hX)
        obtain ⟨rfl, hM⟩ := hP
        refine x_locs2 [(0, .ref m), (1, .int (oI (sp_best n k))), (2, .int (nI k))] ⟨rfl, rfl, rfl, trivial⟩ ?_
        exact J38 (n (88 + 9 * j + 6)) (by first | exact (sp_bv_0 c_24 (by omega)).symm | exact hvj) h (by exact hM)
      · skip
        refine x_iconst C (nI 0) dX7_leads_27 rfl ?_
        refine x_goto C 38 dX7_leads_28 (by decide) ?_
        refine x_locs2 [(0, .ref m), (1, .int (oI (sp_best n k))), (2, .int (nI k))] ⟨rfl, rfl, rfl, trivial⟩ ?_
        exact J38 (nI 0) (by first | exact (sp_bv_0 c_24 (by omega)).symm | exact hvj) h (by exact hM)
  refine x_locs2 [(0, .ref m), (1, .int (-1)), (2, .int (nI 0))] ⟨rfl, rfl, rfl, trivial⟩ ?_
  exact L4 _ 0 rfl (by omega) h (by exact hM)
theorem c_X7_begins {G : xG} {l : Launch} (hl : l.stackTraces = false) {m : Nat} {A : Nat → Nat} {F n : Nat → Int32} {B : Nat → Nat → Int32} {h0 h : xAH} (hM : MW m A F n B h0 h) {S Gn Cn T : Nat} (hI : Ginv n S Gn Cn T) (hT2 : T < 20000) : xM G l yX7_begins cX7_begins 2 (Option.none : Option Jvm.ClassFile.FieldType) [] 3 0 0 [.ref m] h (fun r h2 => r = none ∧ MW m A F (sp_begin n S) B h0 h2) xNo := by
  refine xcode_start (by decide) (Nat.le_of_ble_eq_true rfl) hl ?_
  intro E hE B0
  subst hE
  have C := B0.1
  have hS8 := hI.S8; have hG6 := hI.G6; have hC6 := hI.C6; have hT := hI.T0
  show xW G E 2 0 0 h 0 [(0, .ref m)] []
  refine x_aload_n C dX7_begins_0 rfl ?_
  refine m_getN C dX7_begins_1 fl_X7_7_6 hM ?_
  refine x_iconst C (nI 5) dX7_begins_4 rfl ?_
  refine x_dup2 C dX7_begins_5 rfl rfl ?_
  refine m_ldN C dX7_begins_6 hM (j := 5) rfl (by omega) ?_
  refine x_iconst C (nI 1) dX7_begins_7 rfl ?_
  refine x_iadd C dX7_begins_8 ?_
  refine m_stN C dX7_begins_9 hM (j := 5) rfl (by omega) (fun h hM => ?_)
  obtain ⟨n1, en1, hM⟩ := MW.nameN hM
  have hI_n1 : Ginv n1 S Gn Cn (T + 1) := by rw [en1]; exact hI.tick hT2
  refine x_iconst C (nI 0) dX7_begins_10 rfl ?_
  refine x_istore_n C dX7_begins_11 (by decide) rfl ?_
  have L12 : ∀ (d : Nat) (k : Nat), S - k = d → k ≤ S → ∀ h, MW m A F (sp_gathers n1 k) B h0 h → xW G E 2 0 0 h 12 [(0, .ref m), (1, .int (nI k))] [] := by
    intro d
    induction d using Nat.strongRecOn with | _ d ih12 => ?_
    intro k hd12 hk h hM
    refine x_iload_n C dX7_begins_12 rfl ?_
    refine x_aload_n C dX7_begins_13 rfl ?_
    refine m_getN C dX7_begins_14 fl_X7_7_6 hM ?_
    refine x_bipush C (nI 6) dX7_begins_17 rfl ?_
    refine m_ldN C dX7_begins_19 hM (j := 6) rfl (by omega) ?_
    refine x_toi (nI S) (hI_n1.gathers hk).s ?_
    refine x_icmp_ge C 34 dX7_begins_20 (by decide) (fun c_20 => ?_) (fun c_20 => ?_)
    · skip
      have c_20 := (xn_geT k S c_20 (by omega) (by omega))
      exact x_ret B0 dX7_begins_34 rfl (by obtain rfl : S = k := (by omega); subst en1; exact ⟨rfl, hM⟩)
    · skip
      have c_20 := (xn_geF k S c_20 (by omega) (by omega))
      refine x_aload_n C dX7_begins_23 rfl ?_
      refine x_iload_n C dX7_begins_24 rfl ?_
      refine x_callV (mc' := 0) (ms' := 0) C dX7_begins_25 (c_X7_gathers hl hM k (by omega)) mf_X7_gathers q4024 q4026 qs111 (Or.inl hM.1) rfl rfl rfl (Nat.le_of_ble_eq_true rfl) (by decide) rfl rfl (fun r h hP => ?_) (fun _ _ _ hX => False.elim hX)
      obtain ⟨rfl, hM⟩ := hP
      obtain ⟨n2, en2, hM⟩ := MW.nameN hM
      refine x_iinc C (nI (k + 1)) dX7_begins_28 rfl (nI_add _ 1) (by decide) rfl ?_
      refine x_goto C 12 dX7_begins_31 (by decide) ?_
      refine x_locs2 [(0, .ref m), (1, .int (nI (k + 1)))] ⟨rfl, rfl, trivial⟩ ?_
      exact ih12 _ (by omega) (k + 1) rfl (by omega) h (by subst en2; exact hM)
  refine x_locs2 [(0, .ref m), (1, .int (nI 0))] ⟨rfl, rfl, trivial⟩ ?_
  exact L12 _ 0 rfl (by omega) h (by subst en1; exact hM)
theorem c_X7_awards {G : xG} {l : Launch} (hl : l.stackTraces = false) {m : Nat} {A : Nat → Nat} {F n : Nat → Int32} {B : Nat → Nat → Int32} {h0 h : xAH} (hM : MW m A F n B h0 h) {S Gn Cn T : Nat} (hI : Ginv n S Gn Cn T)  : xM G l yX7_awards cX7_awards 2 (Option.none : Option Jvm.ClassFile.FieldType) [] 3 0 0 [.ref m] h (fun r h2 => r = none ∧ MW m A (va_up F 8 (oI (sp_best n Gn))) (sp_award n Gn) B h0 h2) xNo := by
  refine xcode_start (by decide) (Nat.le_of_ble_eq_true rfl) hl ?_
  intro E hE B0
  subst hE
  have C := B0.1
  have hS8 := hI.S8; have hG6 := hI.G6; have hC6 := hI.C6; have hT := hI.T0
  show xW G E 2 0 0 h 0 [(0, .ref m)] []
  refine x_aload_n C dX7_awards_0 rfl ?_
  refine x_aload_n C dX7_awards_1 rfl ?_
  refine x_callV (mc' := 0) (ms' := 0) C dX7_awards_2 (c_X7_leads hl hM hI) mf_X7_leads q4073 q4075 qs123 (Or.inl hM.1) rfl rfl rfl (Nat.le_of_ble_eq_true rfl) (by decide) rfl rfl (fun r h hP => ?_) (fun _ _ _ hX => False.elim hX)
  obtain ⟨rfl, hM⟩ := hP
  refine m_putI C dX7_awards_5 fl_X7_29_6 hM rfl rfl ⟨rfl, rfl⟩ (fun h hM => ?_)
  obtain ⟨F1, eF1, hM⟩ := MW.nameF hM
  have J38 : ∀ (nJ : Nat → Int32), nJ = sp_awn n Gn → ∀ h, MW m A F1 nJ B h0 h → xW G E 2 0 0 h 38 [(0, .ref m)] [] := by
    intro nJ e5 h hM
    refine x_iconst C (nI 0) dX7_awards_38 rfl ?_
    refine x_istore_n C dX7_awards_39 (by decide) rfl ?_
    have L40 : ∀ (d : Nat) (k : Nat), Gn - k = d → k ≤ Gn → ∀ h, MW m A F1 (sp_zeroN nJ k) B h0 h → xW G E 2 0 0 h 40 [(0, .ref m), (1, .int (nI k))] [] := by
      intro d
      induction d using Nat.strongRecOn with | _ d ih40 => ?_
      intro k hd40 hk h hM
      refine x_iload_n C dX7_awards_40 rfl ?_
      refine x_aload_n C dX7_awards_41 rfl ?_
      refine m_getN C dX7_awards_42 fl_X7_7_6 hM ?_
      refine x_bipush C (nI 7) dX7_awards_45 rfl ?_
      refine m_ldN C dX7_awards_47 hM (j := 7) rfl (by omega) ?_
      refine x_toi (nI Gn) ((show Ginv nJ S Gn Cn T from by rw [e5]; exact hI.awn).zeroN hk).g ?_
      refine x_icmp_ge C 73 dX7_awards_48 (by decide) (fun c_48 => ?_) (fun c_48 => ?_)
      · skip
        have c_48 := (xn_geT k Gn c_48 (by omega) (by omega))
        exact x_ret B0 dX7_awards_73 rfl (by obtain rfl : Gn = k := (by omega); subst e5; subst eF1; exact ⟨rfl, hM⟩)
      · skip
        have c_48 := (xn_geF k Gn c_48 (by omega) (by omega))
        refine x_aload_n C dX7_awards_51 rfl ?_
        refine m_getN C dX7_awards_52 fl_X7_7_6 hM ?_
        refine x_bipush C (nI 88) dX7_awards_55 rfl ?_
        refine x_bipush C (nI 9) dX7_awards_57 rfl ?_
        refine x_iload_n C dX7_awards_59 rfl ?_
        refine x_imul C dX7_awards_60 ?_
        refine x_toi (nI (9 * k)) (pk_mul _ _) ?_
        refine x_iadd C dX7_awards_61 ?_
        refine x_toi (nI (88 + (9 * k))) (nI_add _ _) ?_
        refine x_bipush C (nI 6) dX7_awards_62 rfl ?_
        refine x_iadd C dX7_awards_64 ?_
        refine x_toi (nI ((88 + (9 * k)) + 6)) (nI_add _ _) ?_
        refine x_iconst C (nI 0) dX7_awards_65 rfl ?_
        refine m_stN C dX7_awards_66 hM (j := (88 + (9 * k)) + 6) rfl (by omega) (fun h hM => ?_)
        obtain ⟨n2, en2, hM⟩ := MW.nameN hM
        have hI_n2 : Ginv n2 S Gn Cn T := by rw [en2]; exact ((show Ginv nJ S Gn Cn T from by rw [e5]; exact hI.awn).zeroN hk).free _ (Or.inr (Or.inr ⟨k, 6, by omega, by decide, by decide, rfl⟩))
        refine x_iinc C (nI (k + 1)) dX7_awards_67 rfl (nI_add _ 1) (by decide) rfl ?_
        refine x_goto C 40 dX7_awards_70 (by decide) ?_
        refine x_locs2 [(0, .ref m), (1, .int (nI (k + 1)))] ⟨rfl, rfl, trivial⟩ ?_
        exact ih40 _ (by omega) (k + 1) rfl (by omega) h (by subst en2; exact hM)
    refine x_locs2 [(0, .ref m), (1, .int (nI 0))] ⟨rfl, rfl, trivial⟩ ?_
    exact L40 _ 0 rfl (by omega) h (by subst e5; subst eF1; exact hM)
  refine x_aload_n C dX7_awards_8 rfl ?_
  refine m_getI C dX7_awards_9 fl_X7_29_6 hM rfl ?_
  refine x_toi (oI (sp_best n Gn)) (by subst eF1; exact rfl) ?_
  refine x_iconst C (-1) dX7_awards_12 rfl ?_
  refine x_icmp_eq C 38 dX7_awards_13 (by decide) (fun c_13 => ?_) (fun c_13 => ?_)
  · skip
    refine x_locs2 [(0, .ref m)] ⟨rfl, trivial⟩ ?_
    exact J38 n (by subst eF1; exact (sp_awn_N (oI_none c_13 (by omega))).symm) h (by exact hM)
  · skip
    obtain ⟨j, ej, hj⟩ := oI_some (n := n) (k := Gn) (by subst eF1; exact c_13)
    refine x_aload_n C dX7_awards_16 rfl ?_
    refine x_aload_n C dX7_awards_17 rfl ?_
    refine m_getI C dX7_awards_18 fl_X7_29_6 hM rfl ?_
    refine x_toi (oI (sp_best n Gn)) (by subst eF1; exact rfl) ?_
    refine x_toi (nI j) (by subst eF1; show oI (sp_best n Gn) = nI j; rw [ej]; rfl) ?_
    refine x_bipush C (nI 8) dX7_awards_21 rfl ?_
    refine x_iconst C (nI 1) dX7_awards_23 rfl ?_
    refine x_callV (mc' := 0) (ms' := 0) C dX7_awards_24 (c_X7_addG hl hM j 8 (nI 1) (by omega)) mf_X7_addG q4041 q4043 qs115 (Or.inl hM.1) rfl rfl rfl (Nat.le_of_ble_eq_true rfl) (by decide) rfl rfl (fun r h hP => ?_) (fun _ _ _ hX => False.elim hX)
    obtain ⟨rfl, hM⟩ := hP
    obtain ⟨n3, en3, hM⟩ := MW.nameN hM
    have hI_n3 : Ginv n3 S Gn Cn T := by rw [en3]; exact hI.free _ (Or.inr (Or.inr ⟨j, 8, by omega, by decide, by decide, rfl⟩))
    refine x_aload_n C dX7_awards_27 rfl ?_
    refine x_aload_n C dX7_awards_28 rfl ?_
    refine m_getN C dX7_awards_29 fl_X7_7_6 hM ?_
    refine x_iconst C (nI 3) dX7_awards_32 rfl ?_
    refine m_ldN C dX7_awards_33 hM (j := 3) rfl (by omega) ?_
    refine x_ineg C dX7_awards_34 ?_
    refine x_callV (mc' := 0) (ms' := 0) C dX7_awards_35 (c_X7_earns hl hM (-(n3 3))) mf_X7_earns q4045 q4047 qs116 (Or.inl hM.1) rfl rfl rfl (Nat.le_of_ble_eq_true rfl) (by decide) rfl rfl (fun r h hP => ?_) (fun _ _ _ hX => False.elim hX)
    obtain ⟨rfl, hM⟩ := hP
    obtain ⟨n4, en4, hM⟩ := MW.nameN hM
    have hI_n4 : Ginv n4 S Gn Cn T := by rw [en4]; exact hI_n3.earn _
    refine x_locs2 [(0, .ref m)] ⟨rfl, trivial⟩ ?_
    exact J38 n4 (by subst en4; subst en3; subst eF1; exact (sp_awn_S ej).symm) h (by exact hM)
theorem c_X7_nightPasses {G : xG} {l : Launch} (hl : l.stackTraces = false) {m : Nat} {A : Nat → Nat} {F n : Nat → Int32} {B : Nat → Nat → Int32} {h0 h : xAH} (hM : MW m A F n B h0 h) {S Gn Cn T : Nat} (hI : Ginv n S Gn Cn T) (hT2 : T < 20000) : xM G l yX7_nightPasses cX7_nightPasses 2 (Option.none : Option Jvm.ClassFile.FieldType) [] 5 0 0 [.ref m] h (fun r h2 => r = none ∧ MW m A (sp_nightF F n S Gn Cn) (sp_night n S Gn Cn) B h0 h2) xNo := by
  refine xcode_start (by decide) (Nat.le_of_ble_eq_true rfl) hl ?_
  intro E hE B0
  subst hE
  have C := B0.1
  have hS8 := hI.S8; have hG6 := hI.G6; have hC6 := hI.C6; have hT := hI.T0
  show xW G E 2 0 0 h 0 [(0, .ref m)] []
  refine x_aload_n C dX7_nightPasses_0 rfl ?_
  refine x_callV (mc' := 0) (ms' := 0) C dX7_nightPasses_1 (c_X7_begins hl hM hI (by omega)) mf_X7_begins q4020 q4022 qs110 (Or.inl hM.1) rfl rfl rfl (Nat.le_of_ble_eq_true rfl) (by decide) rfl rfl (fun r h hP => ?_) (fun _ _ _ hX => False.elim hX)
  obtain ⟨rfl, hM⟩ := hP
  obtain ⟨n1, en1, hM⟩ := MW.nameN hM
  have hI_n1 : Ginv n1 S Gn Cn ((T) + 1) := by rw [en1]; exact (hI.begin (by omega))
  refine x_iconst C (nI 0) dX7_nightPasses_4 rfl ?_
  refine x_istore_n C dX7_nightPasses_5 (by decide) rfl ?_
  have L6 : ∀ (d : Nat) (k : Nat), Cn - k = d → k ≤ Cn → ∀ h, MW m A F (sp_delivers n1 S k) B h0 h → xW G E 2 0 0 h 6 [(0, .ref m), (1, .int (nI k))] [] := by
    intro d
    induction d using Nat.strongRecOn with | _ d ih6 => ?_
    intro k hd6 hk h hM
    refine x_iload_n C dX7_nightPasses_6 rfl ?_
    refine x_aload_n C dX7_nightPasses_7 rfl ?_
    refine m_getN C dX7_nightPasses_8 fl_X7_7_6 hM ?_
    refine x_bipush C (nI 8) dX7_nightPasses_11 rfl ?_
    refine m_ldN C dX7_nightPasses_13 hM (j := 8) rfl (by omega) ?_
    refine x_toi (nI Cn) (hI_n1.delivers hk).c ?_
    refine x_icmp_ge C 28 dX7_nightPasses_14 (by decide) (fun c_14 => ?_) (fun c_14 => ?_)
    · skip
      have c_14 := (xn_geT k Cn c_14 (by omega) (by omega))
      obtain rfl : Cn = k := (by omega)
      refine x_iconst C (nI 0) dX7_nightPasses_28 rfl ?_
      refine x_istore_n C dX7_nightPasses_29 (by decide) rfl ?_
      have L30 : ∀ (d : Nat) (k2 : Nat), Gn - k2 = d → k2 ≤ Gn → ∀ h, MW m A F (sp_blooms (sp_delivers n1 S Cn) k2) B h0 h → xW G E 2 0 0 h 30 [(0, .ref m), (1, .int (nI k2))] [] := by
        intro d
        induction d using Nat.strongRecOn with | _ d ih30 => ?_
        intro k2 hd30 hk2 h hM
        refine x_iload_n C dX7_nightPasses_30 rfl ?_
        refine x_aload_n C dX7_nightPasses_31 rfl ?_
        refine m_getN C dX7_nightPasses_32 fl_X7_7_6 hM ?_
        refine x_bipush C (nI 7) dX7_nightPasses_35 rfl ?_
        refine m_ldN C dX7_nightPasses_37 hM (j := 7) rfl (by omega) ?_
        refine x_toi (nI Gn) ((hI_n1.delivers hk).blooms hk2).g ?_
        refine x_icmp_ge C 52 dX7_nightPasses_38 (by decide) (fun c_38 => ?_) (fun c_38 => ?_)
        · skip
          have c_38 := (xn_geT k2 Gn c_38 (by omega) (by omega))
          obtain rfl : Gn = k2 := (by omega)
          refine x_iconst C (nI 0) dX7_nightPasses_52 rfl ?_
          refine x_istore_n C dX7_nightPasses_53 (by decide) rfl ?_
          have L54 : ∀ (d : Nat) (k3 : Nat), Cn - k3 = d → k3 ≤ Cn → ∀ h, MW m A F (sp_expireN (sp_blooms (sp_delivers n1 S Cn) Gn) k3) B h0 h → xW G E 2 0 0 h 54 [(0, .ref m), (1, .int (nI k3))] [] := by
            intro d
            induction d using Nat.strongRecOn with | _ d ih54 => ?_
            intro k3 hd54 hk3 h hM
            refine x_iload_n C dX7_nightPasses_54 rfl ?_
            refine x_aload_n C dX7_nightPasses_55 rfl ?_
            refine m_getN C dX7_nightPasses_56 fl_X7_7_6 hM ?_
            refine x_bipush C (nI 8) dX7_nightPasses_59 rfl ?_
            refine m_ldN C dX7_nightPasses_61 hM (j := 8) rfl (by omega) ?_
            refine x_toi (nI Cn) (((hI_n1.delivers hk).blooms hk2).expireN hk3).c ?_
            refine x_icmp_ge C 93 dX7_nightPasses_62 (by decide) (fun c_62 => ?_) (fun c_62 => ?_)
            · skip
              have c_62 := (xn_geT k3 Cn c_62 (by omega) (by omega))
              obtain rfl : Cn = k3 := (by omega)
              refine x_aload_n C dX7_nightPasses_93 rfl ?_
              refine m_getN C dX7_nightPasses_94 fl_X7_7_6 hM ?_
              refine x_iconst C (nI 5) dX7_nightPasses_97 rfl ?_
              refine m_ldN C dX7_nightPasses_98 hM (j := 5) rfl (by omega) ?_
              have hb_98 := (((hI_n1.delivers hk).blooms hk2).expireN hk3).t.2
              refine x_toi (nI (cn ((sp_expireN (sp_blooms (sp_delivers n1 S Cn) Gn) Cn) 5))) (((hI_n1.delivers hk).blooms hk2).expireN hk3).t.1 ?_
              refine x_bipush C (nI 7) dX7_nightPasses_99 rfl ?_
              refine x_irem C dX7_nightPasses_101 (nI_ne0 (by omega) (by omega)) ?_
              refine x_toi (nI ((cn ((sp_expireN (sp_blooms (sp_delivers n1 S Cn) Gn) Cn) 5)) % 7)) (pk_rem (by omega) (by omega) (by omega)) ?_
              refine x_if_ne C 109 dX7_nightPasses_102 (by decide) (fun c_102 => ?_) (fun c_102 => ?_)
              · skip
                have c_102 := (xn_neT ((cn ((sp_expireN (sp_blooms (sp_delivers n1 S Cn) Gn) Cn) 5)) % 7) 0 c_102 (by omega) (by omega))
                exact x_ret B0 dX7_nightPasses_109 rfl (by subst en1; first | (rw [sp_night_p (show cn (sp_night4 n S Gn Cn 5) % 7 = 0 from c_102), sp_nightF_p (show cn (sp_night4 n S Gn Cn 5) % 7 = 0 from c_102)]; exact ⟨rfl, hM⟩) | (rw [sp_night_n (show ¬ cn (sp_night4 n S Gn Cn 5) % 7 = 0 from c_102), sp_nightF_n (show ¬ cn (sp_night4 n S Gn Cn 5) % 7 = 0 from c_102)]; exact ⟨rfl, hM⟩))
              · skip
                have c_102 := (xn_neF ((cn ((sp_expireN (sp_blooms (sp_delivers n1 S Cn) Gn) Cn) 5)) % 7) 0 c_102 (by omega) (by omega))
                refine x_aload_n C dX7_nightPasses_105 rfl ?_
                refine x_callV (mc' := 0) (ms' := 0) C dX7_nightPasses_106 (c_X7_awards hl hM (((hI_n1.delivers hk).blooms hk2).expireN hk3)) mf_X7_awards q4069 q4071 qs122 (Or.inl hM.1) rfl rfl rfl (Nat.le_of_ble_eq_true rfl) (by decide) rfl rfl (fun r h hP => ?_) (fun _ _ _ hX => False.elim hX)
                obtain ⟨rfl, hM⟩ := hP
                obtain ⟨F2, eF2, hM⟩ := MW.nameF hM
                obtain ⟨n3, en3, hM⟩ := MW.nameN hM
                have hI_n3 : Ginv n3 S Gn Cn ((T) + 1) := by rw [en3]; exact ((((hI_n1.delivers hk).blooms hk2).expireN hk3).award)
                exact x_ret B0 dX7_nightPasses_109 rfl (by subst en3; subst eF2; subst en1; first | (rw [sp_night_p (show cn (sp_night4 n S Gn Cn 5) % 7 = 0 from c_102), sp_nightF_p (show cn (sp_night4 n S Gn Cn 5) % 7 = 0 from c_102)]; exact ⟨rfl, hM⟩) | (rw [sp_night_n (show ¬ cn (sp_night4 n S Gn Cn 5) % 7 = 0 from c_102), sp_nightF_n (show ¬ cn (sp_night4 n S Gn Cn 5) % 7 = 0 from c_102)]; exact ⟨rfl, hM⟩))
            · skip
              have c_62 := (xn_geF k3 Cn c_62 (by omega) (by omega))
              refine x_aload_n C dX7_nightPasses_65 rfl ?_
              refine x_iload_n C dX7_nightPasses_66 rfl ?_
              refine x_callV (mc' := 0) (ms' := 0) C dX7_nightPasses_67 (c_X7_isBound hl hM k3 (by omega)) mf_X7_isBound q3987 q3989 qs102 (Or.inl hM.1) rfl rfl rfl (Nat.le_of_ble_eq_true rfl) (by decide) rfl rfl (fun r h hP => ?_) (fun _ _ _ hX => False.elim hX)
              obtain ⟨rfl, hM⟩ := hP
              by_cases hb_67 : 0 < (sp_expireN (sp_blooms (sp_delivers n1 S Cn) Gn) k3) (142 + 5 * k3 + 4)
              · refine x_toi (nI 1) (bI_t hb_67) ?_
                refine x_if_eq C 87 dX7_nightPasses_70 (by decide) (fun c_70 => ?_) (fun c_70 => ?_)
                · exact absurd c_70 (by decide)
                · skip
                  have c_70 := (xn_eqF 1 0 c_70 (by omega) (by omega))
                  refine x_aload_n C dX7_nightPasses_73 rfl ?_
                  refine x_iload_n C dX7_nightPasses_74 rfl ?_
                  refine x_iconst C (nI 4) dX7_nightPasses_75 rfl ?_
                  refine x_aload_n C dX7_nightPasses_76 rfl ?_
                  refine x_iload_n C dX7_nightPasses_77 rfl ?_
                  refine x_iconst C (nI 4) dX7_nightPasses_78 rfl ?_
                  refine x_callV (mc' := 0) (ms' := 0) C dX7_nightPasses_79 (c_X7_ofC hl hM k3 4 (by omega)) mf_X7_ofC q3991 q3993 qs103 (Or.inl hM.1) rfl rfl rfl (Nat.le_of_ble_eq_true rfl) (by decide) rfl rfl (fun r h hP => ?_) (fun _ _ _ hX => False.elim hX)
                  obtain ⟨rfl, hM⟩ := hP
                  refine x_iconst C (nI 1) dX7_nightPasses_82 rfl ?_
                  refine x_isub C dX7_nightPasses_83 ?_
                  refine x_callV (mc' := 0) (ms' := 0) C dX7_nightPasses_84 (c_X7_putC hl hM k3 4 (((sp_expireN (sp_blooms (sp_delivers n1 S Cn) Gn) k3) (142 + 5 * k3 + 4)) - (nI 1)) (by omega)) mf_X7_putC q3784 q3786 qs85 (Or.inl hM.1) rfl rfl rfl (Nat.le_of_ble_eq_true rfl) (by decide) rfl rfl (fun r h hP => ?_) (fun _ _ _ hX => False.elim hX)
                  obtain ⟨rfl, hM⟩ := hP
                  obtain ⟨n4, en4, hM⟩ := MW.nameN hM
                  refine x_iinc C (nI (k3 + 1)) dX7_nightPasses_87 rfl (nI_add _ 1) (by decide) rfl ?_
                  refine x_goto C 54 dX7_nightPasses_90 (by decide) ?_
                  refine x_locs2 [(0, .ref m), (1, .int (nI (k3 + 1)))] ⟨rfl, rfl, trivial⟩ ?_
                  exact ih54 _ (by omega) (k3 + 1) rfl (by omega) h (by subst en4; show MW m A _ (sp_expire1 _ _) _ h0 h; unfold sp_expire1; first | (rw [if_pos hb_67]; exact hM) | (rw [if_neg hb_67]; exact hM))
              · refine x_toi (nI 0) (bI_f hb_67) ?_
                refine x_if_eq C 87 dX7_nightPasses_70 (by decide) (fun c_70 => ?_) (fun c_70 => ?_)
                · skip
                  have c_70 := (xn_eqT 0 0 c_70 (by omega) (by omega))
                  refine x_iinc C (nI (k3 + 1)) dX7_nightPasses_87 rfl (nI_add _ 1) (by decide) rfl ?_
                  refine x_goto C 54 dX7_nightPasses_90 (by decide) ?_
                  refine x_locs2 [(0, .ref m), (1, .int (nI (k3 + 1)))] ⟨rfl, rfl, trivial⟩ ?_
                  exact ih54 _ (by omega) (k3 + 1) rfl (by omega) h (by show MW m A _ (sp_expire1 _ _) _ h0 h; unfold sp_expire1; first | (rw [if_pos hb_67]; exact hM) | (rw [if_neg hb_67]; exact hM))
                · exact absurd c_70 (by decide)
          refine x_locs2 [(0, .ref m), (1, .int (nI 0))] ⟨rfl, rfl, trivial⟩ ?_
          exact L54 _ 0 rfl (by omega) h (by exact hM)
        · skip
          have c_38 := (xn_geF k2 Gn c_38 (by omega) (by omega))
          refine x_aload_n C dX7_nightPasses_41 rfl ?_
          refine x_iload_n C dX7_nightPasses_42 rfl ?_
          refine x_callV (mc' := 0) (ms' := 0) C dX7_nightPasses_43 (c_X7_blooms hl hM k2 (by omega)) mf_X7_blooms q4065 q4067 qs121 (Or.inl hM.1) rfl rfl rfl (Nat.le_of_ble_eq_true rfl) (by decide) rfl rfl (fun r h hP => ?_) (fun _ _ _ hX => False.elim hX)
          obtain ⟨rfl, hM⟩ := hP
          obtain ⟨n5, en5, hM⟩ := MW.nameN hM
          refine x_iinc C (nI (k2 + 1)) dX7_nightPasses_46 rfl (nI_add _ 1) (by decide) rfl ?_
          refine x_goto C 30 dX7_nightPasses_49 (by decide) ?_
          refine x_locs2 [(0, .ref m), (1, .int (nI (k2 + 1)))] ⟨rfl, rfl, trivial⟩ ?_
          exact ih30 _ (by omega) (k2 + 1) rfl (by omega) h (by subst en5; exact hM)
      refine x_locs2 [(0, .ref m), (1, .int (nI 0))] ⟨rfl, rfl, trivial⟩ ?_
      exact L30 _ 0 rfl (by omega) h (by exact hM)
    · skip
      have c_14 := (xn_geF k Cn c_14 (by omega) (by omega))
      refine x_aload_n C dX7_nightPasses_17 rfl ?_
      refine x_iload_n C dX7_nightPasses_18 rfl ?_
      refine x_callV (mc' := 0) (ms' := 0) C dX7_nightPasses_19 (c_X7_delivers hl hM (hI_n1.delivers hk) k (by omega)) mf_X7_delivers q4033 q4035 qs113 (Or.inl hM.1) rfl rfl rfl (Nat.le_of_ble_eq_true rfl) (by decide) rfl rfl (fun r h hP => ?_) (fun _ _ _ hX => False.elim hX)
      obtain ⟨rfl, hM⟩ := hP
      obtain ⟨n6, en6, hM⟩ := MW.nameN hM
      refine x_iinc C (nI (k + 1)) dX7_nightPasses_22 rfl (nI_add _ 1) (by decide) rfl ?_
      refine x_goto C 6 dX7_nightPasses_25 (by decide) ?_
      refine x_locs2 [(0, .ref m), (1, .int (nI (k + 1)))] ⟨rfl, rfl, trivial⟩ ?_
      exact ih6 _ (by omega) (k + 1) rfl (by omega) h (by subst en6; exact hM)
  refine x_locs2 [(0, .ref m), (1, .int (nI 0))] ⟨rfl, rfl, trivial⟩ ?_
  exact L6 _ 0 rfl (by omega) h (by subst en1; exact hM)
theorem c_X7_tries {G : xG} {l : Launch} (hl : l.stackTraces = false) {m : Nat} {A : Nat → Nat} {F n : Nat → Int32} {B : Nat → Nat → Int32} {h0 h : xAH} (hM : MW m A F n B h0 h)  : xM G l yX7_tries cX7_tries 2 (Option.none : Option Jvm.ClassFile.FieldType) [] 1 0 0 [.ref m] h (fun r h2 => r = none ∧ MW m A F n (va_up B 1 (sp_cp 0 n (B 1) 212)) h0 h2) xNo := by
  refine xcode_start (by decide) (Nat.le_of_ble_eq_true rfl) hl ?_
  intro E hE B0
  subst hE
  have C := B0.1
  show xW G E 2 0 0 h 0 [(0, .ref m)] []
  refine x_iconst C (nI 0) dX7_tries_0 rfl ?_
  refine x_istore_n C dX7_tries_1 (by decide) rfl ?_
  have L2 : ∀ (d : Nat) (k : Nat), 212 - k = d → k ≤ 212 → ∀ h, MW m A F n (va_up B 1 (sp_cp 0 n (B 1) k)) h0 h → xW G E 2 0 0 h 2 [(0, .ref m), (1, .int (nI k))] [] := by
    intro d
    induction d using Nat.strongRecOn with | _ d ih2 => ?_
    intro k hd2 hk h hM
    refine x_iload_n C dX7_tries_2 rfl ?_
    refine x_sipush C (nI 212) dX7_tries_3 rfl ?_
    refine x_icmp_ge C 27 dX7_tries_6 (by decide) (fun c_6 => ?_) (fun c_6 => ?_)
    · skip
      have c_6 := (xn_geT k 212 c_6 (by omega) (by omega))
      obtain rfl : 212 = k := (by omega)
      exact x_ret B0 dX7_tries_27 rfl (⟨rfl, hM⟩)
    · skip
      have c_6 := (xn_geF k 212 c_6 (by omega) (by omega))
      refine x_aload_n C dX7_tries_9 rfl ?_
      refine m_getA C dX7_tries_10 fl_X7_13_6 hM rfl ?_
      refine x_iload_n C dX7_tries_13 rfl ?_
      refine x_aload_n C dX7_tries_14 rfl ?_
      refine m_getN C dX7_tries_15 fl_X7_7_6 hM ?_
      refine x_iload_n C dX7_tries_18 rfl ?_
      refine m_ldN C dX7_tries_19 hM (j := k) rfl (by omega) ?_
      refine m_st C dX7_tries_20 hM rfl (j := k) rfl (show _ < 212 from by omega) (fun h hM => ?_)
      obtain ⟨B1, eB1, hM⟩ := MW.nameB hM
      refine x_iinc C (nI (k + 1)) dX7_tries_21 rfl (nI_add _ 1) (by decide) rfl ?_
      refine x_goto C 2 dX7_tries_24 (by decide) ?_
      refine x_locs2 [(0, .ref m), (1, .int (nI (k + 1)))] ⟨rfl, rfl, trivial⟩ ?_
      exact ih2 _ (by omega) (k + 1) rfl (by omega) h (by subst eB1; have e := cp_step B 1 n (B 1) 0 k 0; rw [Nat.zero_add] at e; rw [← e]; exact hM)
  refine x_locs2 [(0, .ref m), (1, .int (nI 0))] ⟨rfl, rfl, trivial⟩ ?_
  exact L2 _ 0 rfl (by omega) h (by rw [cp_zero]; exact hM)
theorem c_X7_back {G : xG} {l : Launch} (hl : l.stackTraces = false) {m : Nat} {A : Nat → Nat} {F n : Nat → Int32} {B : Nat → Nat → Int32} {h0 h : xAH} (hM : MW m A F n B h0 h) (v : Int32) : xM G l yX7_back cX7_back 3 (Option.some Jvm.ClassFile.FieldType.int) [] 1 0 0 [.ref m, .int v] h (fun r h2 => r = some (.int v) ∧ MW m A F (sp_cp 0 (B 1) n 212) B h0 h2) xNo := by
  refine xcode_start (by decide) (Nat.le_of_ble_eq_true rfl) hl ?_
  intro E hE B0
  subst hE
  have C := B0.1
  show xW G E 3 0 0 h 0 [(0, .ref m), (1, .int v)] []
  refine x_iconst C (nI 0) dX7_back_0 rfl ?_
  refine x_istore_n C dX7_back_1 (by decide) rfl ?_
  have L2 : ∀ (d : Nat) (k : Nat), 212 - k = d → k ≤ 212 → ∀ h, MW m A F (sp_cp 0 (B 1) n k) B h0 h → xW G E 3 0 0 h 2 [(0, .ref m), (1, .int v), (2, .int (nI k))] [] := by
    intro d
    induction d using Nat.strongRecOn with | _ d ih2 => ?_
    intro k hd2 hk h hM
    refine x_iload_n C dX7_back_2 rfl ?_
    refine x_sipush C (nI 212) dX7_back_3 rfl ?_
    refine x_icmp_ge C 27 dX7_back_6 (by decide) (fun c_6 => ?_) (fun c_6 => ?_)
    · skip
      have c_6 := (xn_geT k 212 c_6 (by omega) (by omega))
      obtain rfl : 212 = k := (by omega)
      refine x_iload_n C dX7_back_27 rfl ?_
      exact x_iret B0 dX7_back_28 rfl (⟨rfl, hM⟩)
    · skip
      have c_6 := (xn_geF k 212 c_6 (by omega) (by omega))
      refine x_aload_n C dX7_back_9 rfl ?_
      refine m_getN C dX7_back_10 fl_X7_7_6 hM ?_
      refine x_iload_n C dX7_back_13 rfl ?_
      refine x_aload_n C dX7_back_14 rfl ?_
      refine m_getA C dX7_back_15 fl_X7_13_6 hM rfl ?_
      refine x_iload_n C dX7_back_18 rfl ?_
      refine m_ld C dX7_back_19 hM rfl (j := k) rfl (show _ < 212 from by omega) ?_
      refine m_stN C dX7_back_20 hM (j := k) rfl (by omega) (fun h hM => ?_)
      obtain ⟨n1, en1, hM⟩ := MW.nameN hM
      refine x_iinc C (nI (k + 1)) dX7_back_21 rfl (nI_add _ 1) (by decide) rfl ?_
      refine x_goto C 2 dX7_back_24 (by decide) ?_
      refine x_locs2 [(0, .ref m), (1, .int v), (2, .int (nI (k + 1)))] ⟨rfl, rfl, rfl, trivial⟩ ?_
      exact ih2 _ (by omega) (k + 1) rfl (by omega) h (by subst en1; show MW m A F (va_up (sp_cp 0 (B 1) n k) (0 + k) (B 1 k)) B h0 h; rw [Nat.zero_add]; exact hM)
  refine x_locs2 [(0, .ref m), (1, .int v), (2, .int (nI 0))] ⟨rfl, rfl, rfl, trivial⟩ ?_
  exact L2 _ 0 rfl (by omega) h (by exact hM)
theorem c_X7_runs {G : xG} {l : Launch} (hl : l.stackTraces = false) {m : Nat} {A : Nat → Nat} {F n : Nat → Int32} {B : Nat → Nat → Int32} {h0 h : xAH} (hM : MW m A F n B h0 h) {S Gn Cn T : Nat} (hI : Ginv n S Gn Cn T) (x : Nat) (hx : T + x < 20000) : xM G l yX7_runs cX7_runs 3 (Option.none : Option Jvm.ClassFile.FieldType) [] 6 0 0 [.ref m, .int (nI x)] h (fun r h2 => r = none ∧ MW m A (sp_nightsF F n S Gn Cn x) (sp_nights n S Gn Cn x) B h0 h2) xNo := by
  refine xcode_start (by decide) (Nat.le_of_ble_eq_true rfl) hl ?_
  intro E hE B0
  subst hE
  have C := B0.1
  have hS8 := hI.S8; have hG6 := hI.G6; have hC6 := hI.C6; have hT := hI.T0
  show xW G E 3 0 0 h 0 [(0, .ref m), (1, .int (nI x))] []
  refine x_iconst C (nI 0) dX7_runs_0 rfl ?_
  refine x_istore_n C dX7_runs_1 (by decide) rfl ?_
  have L2 : ∀ (d : Nat) (k : Nat), x - k = d → k ≤ x → ∀ h, MW m A (sp_nightsF F n S Gn Cn k) (sp_nights n S Gn Cn k) B h0 h → xW G E 3 0 0 h 2 [(0, .ref m), (1, .int (nI x)), (2, .int (nI k))] [] := by
    intro d
    induction d using Nat.strongRecOn with | _ d ih2 => ?_
    intro k hd2 hk h hM
    refine x_iload_n C dX7_runs_2 rfl ?_
    refine x_iload_n C dX7_runs_3 rfl ?_
    refine x_icmp_ge C 17 dX7_runs_4 (by decide) (fun c_4 => ?_) (fun c_4 => ?_)
    · skip
      have c_4 := (xn_geT k x c_4 (by omega) (by omega))
      obtain rfl : x = k := (by omega)
      exact x_ret B0 dX7_runs_17 rfl (⟨rfl, hM⟩)
    · skip
      have c_4 := (xn_geF k x c_4 (by omega) (by omega))
      refine x_aload_n C dX7_runs_7 rfl ?_
      refine x_callV (mc' := 0) (ms' := 0) C dX7_runs_8 (c_X7_nightPasses hl hM (hI.nights (k := k) (by omega)) (by omega)) mf_X7_nightPasses q4016 q4018 qs109 (Or.inl hM.1) rfl rfl rfl (Nat.le_of_ble_eq_true rfl) (by decide) rfl rfl (fun r h hP => ?_) (fun _ _ _ hX => False.elim hX)
      obtain ⟨rfl, hM⟩ := hP
      obtain ⟨F1, eF1, hM⟩ := MW.nameF hM
      obtain ⟨n2, en2, hM⟩ := MW.nameN hM
      have hI_n2 : Ginv n2 S Gn Cn ((T + k) + 1) := by rw [en2]; exact ((hI.nights (k := k) (by omega)).night (by omega))
      refine x_iinc C (nI (k + 1)) dX7_runs_11 rfl (nI_add _ 1) (by decide) rfl ?_
      refine x_goto C 2 dX7_runs_14 (by decide) ?_
      refine x_locs2 [(0, .ref m), (1, .int (nI x)), (2, .int (nI (k + 1)))] ⟨rfl, rfl, rfl, trivial⟩ ?_
      exact ih2 _ (by omega) (k + 1) rfl (by omega) h (by subst en2; subst eF1; exact hM)
  refine x_locs2 [(0, .ref m), (1, .int (nI x)), (2, .int (nI 0))] ⟨rfl, rfl, rfl, trivial⟩ ?_
  exact L2 _ 0 rfl (by omega) h (by exact hM)
