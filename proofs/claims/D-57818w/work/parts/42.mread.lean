/-! ===== the reference: numbers, names, places ===== -/
theorem c_X7_looksAt {G : xG} {l : Launch} (hl : l.stackTraces = false) {m : Nat} {A : Nat → Nat} {F n : Nat → Int32} {B : Nat → Nat → Int32} {h0 h : xAH} (hM : MW m A F n B h0 h) (hP : Pok F) (lo hi : Int32) : xM G l yX7_looksAt cX7_looksAt 3 (Option.some Jvm.ClassFile.FieldType.boolean) [] 2 0 0 [.ref m, .int lo, .int hi] h (fun r h2 => r = some (.int (bI (decide (sp_look F lo hi 17 = 0)))) ∧ MW m A (sp_look F lo hi) n B h0 h2) xNo := by
  refine xcode_start (by decide) (Nat.le_of_ble_eq_true rfl) hl ?_
  intro E hE B0
  subst hE
  have C := B0.1
  show xW G E 3 0 0 h 0 [(0, .ref m), (1, .int lo), (2, .int hi)] []
  refine x_aload_n C dX7_looksAt_0 rfl ?_
  refine x_aload_n C dX7_looksAt_1 rfl ?_
  refine m_getI C dX7_looksAt_2 fl_X7_192_6 hM rfl ?_
  refine x_iconst C (nI 2) dX7_looksAt_5 rfl ?_
  refine x_sel_icmp_ne C 13 14 dX7_looksAt_6 (by decide) dX7_looksAt_9 dX7_looksAt_10 (by decide) dX7_looksAt_13 rfl ?_
  refine x_iconst C (nI 1) dX7_looksAt_14 rfl ?_
  refine x_callV (mc' := 0) (ms' := 0) C dX7_looksAt_15 (c_X7_must hl hM (decide ((F 15) = (nI 2))) (nI 1)) mf_X7_must q3709 q3711 qs67 (Or.inl hM.1) rfl rfl rfl (Nat.le_of_ble_eq_true rfl) (by decide) rfl rfl (fun r h hP => ?_) (fun _ _ _ hX => False.elim hX)
  obtain ⟨rfl, hM⟩ := hP
  obtain ⟨F1, eF1, hM⟩ := MW.nameF hM
  have hP_F1 : Pok F1 := by rw [eF1]; exact hP.must _ _
  have J36 : ∀ (FJ : Nat → Int32), FJ = sp_look F lo hi → ∀ h, MW m A FJ n B h0 h → xW G E 3 0 0 h 36 [(0, .ref m), (1, .int lo), (2, .int hi)] [] := by
    intro FJ eJ h hM
    refine x_aload_n C dX7_looksAt_36 rfl ?_
    refine m_getI C dX7_looksAt_37 fl_X7_198_6 hM rfl ?_
    refine x_sel_if_ne C 47 48 dX7_looksAt_40 (by decide) dX7_looksAt_43 dX7_looksAt_44 (by decide) dX7_looksAt_47 rfl ?_
    exact x_zret B0 dX7_looksAt_48 rfl (bI_nar _) (by subst eJ; exact ⟨rfl, hM⟩)
  by_cases hb_18 : sp_must F (decide ((F 15) = (nI 2))) (nI 1) 17 = 0
  · refine x_toi (nI 1) (bI_t hb_18) ?_
    refine x_if_eq C 36 dX7_looksAt_18 (by decide) (fun c_18 => ?_) (fun c_18 => ?_)
    · exact absurd c_18 (by decide)
    refine x_aload_n C dX7_looksAt_21 rfl ?_
    refine x_aload_n C dX7_looksAt_22 rfl ?_
    refine m_getI C dX7_looksAt_23 fl_X7_195_6 hM rfl ?_
    refine x_iload_n C dX7_looksAt_26 rfl ?_
    refine x_iload_n C dX7_looksAt_27 rfl ?_
    refine x_callS (mc' := 0) (ms' := 0) C dX7_looksAt_28 (c_X7_in hl hM (F1 16) lo hi) mf_X7_in q3696 q3697 rfl rfl (Nat.le_of_ble_eq_true rfl) (by decide) rfl rfl (fun r h hP => ?_) (fun _ _ _ hX => False.elim hX)
    obtain ⟨rfl, hM⟩ := hP
    refine x_iconst C (nI 2) dX7_looksAt_31 rfl ?_
    refine x_callV (mc' := 0) (ms' := 0) C dX7_looksAt_32 (c_X7_must hl hM (decide (lo ≤ (F1 16) ∧ (F1 16) ≤ hi)) (nI 2)) mf_X7_must q3709 q3711 qs67 (Or.inl hM.1) rfl rfl rfl (Nat.le_of_ble_eq_true rfl) (by decide) rfl rfl (fun r h hP => ?_) (fun _ _ _ hX => False.elim hX)
    obtain ⟨rfl, hM⟩ := hP
    obtain ⟨F2, eF2, hM⟩ := MW.nameF hM
    have hP_F2 : Pok F2 := by rw [eF2]; exact hP_F1.must _ _
    refine x_pop C dX7_looksAt_35 rfl ?_
    refine x_locs2 [(0, .ref m), (1, .int lo), (2, .int hi)] ⟨rfl, rfl, rfl, trivial⟩ ?_
    exact J36 F2 (by subst eF2; subst eF1; unfold sp_look sp_look1; first | exact (if_pos hb_18).symm | exact (if_neg hb_18).symm) h (by exact hM)
  · refine x_toi (nI 0) (bI_f hb_18) ?_
    refine x_if_eq C 36 dX7_looksAt_18 (by decide) (fun c_18 => ?_) (fun c_18 => ?_)
    rotate_left
    · exact absurd c_18 (by decide)
    refine x_locs2 [(0, .ref m), (1, .int lo), (2, .int hi)] ⟨rfl, rfl, rfl, trivial⟩ ?_
    exact J36 F1 (by subst eF1; unfold sp_look sp_look1; first | exact (if_pos hb_18).symm | exact (if_neg hb_18).symm) h (by exact hM)
theorem c_X7_number {G : xG} {l : Launch} (hl : l.stackTraces = false) {m : Nat} {A : Nat → Nat} {F n : Nat → Int32} {B : Nat → Nat → Int32} {h0 h : xAH} (hM : MW m A F n B h0 h) (hP : Pok F) (lo hi : Int32) : xM G l yX7_number cX7_number 5 (Option.some Jvm.ClassFile.FieldType.int) [] 4 0 0 [.ref m, .int lo, .int hi] h (fun r h2 => r = some (.int (sp_look F lo hi 16)) ∧ MW m A (sp_num (B 9) F lo hi) n B h0 h2) xNo := by
  refine xcode_start (by decide) (Nat.le_of_ble_eq_true rfl) hl ?_
  intro E hE B0
  subst hE
  have C := B0.1
  show xW G E 5 0 0 h 0 [(0, .ref m), (1, .int lo), (2, .int hi)] []
  refine x_aload_n C dX7_number_0 rfl ?_
  refine x_iload_n C dX7_number_1 rfl ?_
  refine x_iload_n C dX7_number_2 rfl ?_
  refine x_callV (mc' := 0) (ms' := 0) C dX7_number_3 (c_X7_looksAt hl hM hP lo hi) mf_X7_looksAt q3721 q3723 qs70 (Or.inl hM.1) rfl rfl rfl (Nat.le_of_ble_eq_true rfl) (by decide) rfl rfl (fun r h hP => ?_) (fun _ _ _ hX => False.elim hX)
  obtain ⟨rfl, hM⟩ := hP
  obtain ⟨F1, eF1, hM⟩ := MW.nameF hM
  have hP_F1 : Pok F1 := by rw [eF1]; exact hP.look _ _
  refine x_istore_n C dX7_number_6 (by decide) rfl ?_
  refine x_aload_n C dX7_number_7 rfl ?_
  refine m_getI C dX7_number_8 fl_X7_195_6 hM rfl ?_
  refine x_istore C dX7_number_11 (by decide) rfl ?_
  refine x_aload_n C dX7_number_13 rfl ?_
  refine x_callV (mc' := 0) (ms' := 0) C dX7_number_14 (c_X7_goesOn hl hM hP_F1) mf_X7_goesOn q3713 q3715 qs68 (Or.inl hM.1) rfl rfl rfl (Nat.le_of_ble_eq_true rfl) (by decide) rfl rfl (fun r h hP => ?_) (fun _ _ _ hX => False.elim hX)
  obtain ⟨rfl, hM⟩ := hP
  obtain ⟨F2, eF2, hM⟩ := MW.nameF hM
  have hP_F2 : Pok F2 := by rw [eF2]; exact hP_F1.on _
  refine x_iload C dX7_number_17 rfl ?_
  exact x_iret B0 dX7_number_19 rfl (by subst eF2; subst eF1; exact ⟨rfl, hM⟩)
theorem c_X7_packed {G : xG} {l : Launch} (hl : l.stackTraces = false) {m : Nat} {A : Nat → Nat} {F n : Nat → Int32} {B : Nat → Nat → Int32} {h0 h : xAH} (hM : MW m A F n B h0 h) (a x : Nat) (ha : a + x ≤ 700) : xM G l yX7_packed cX7_packed 5 (Option.some Jvm.ClassFile.FieldType.int) [] 1 0 0 [.ref m, .int (nI a), .int (nI x)] h (fun r h2 => r = some (.int (pk (B 9) a x)) ∧ MW m A F n B h0 h2) xNo := by
  refine xcode_start (by decide) (Nat.le_of_ble_eq_true rfl) hl ?_
  intro E hE B0
  subst hE
  have C := B0.1
  show xW G E 5 0 0 h 0 [(0, .ref m), (1, .int (nI a)), (2, .int (nI x))] []
  refine x_iconst C (nI 0) dX7_packed_0 rfl ?_
  refine x_istore_n C dX7_packed_1 (by decide) rfl ?_
  refine x_iconst C (nI 0) dX7_packed_2 rfl ?_
  refine x_istore C dX7_packed_3 (by decide) rfl ?_
  have L5 : ∀ (d : Nat) (k : Nat), x - k = d → k ≤ x → ∀ h, MW m A F n B h0 h → xW G E 5 0 0 h 5 [(0, .ref m), (1, .int (nI a)), (2, .int (nI x)), (3, .int (pk (B 9) a k)), (4, .int (nI k))] [] := by
    intro d
    induction d using Nat.strongRecOn with | _ d ih5 => ?_
    intro k hd5 hk h hM
    refine x_iload C dX7_packed_5 rfl ?_
    refine x_iload_n C dX7_packed_7 rfl ?_
    refine x_icmp_ge C 35 dX7_packed_8 (by decide) (fun c_8 => ?_) (fun c_8 => ?_)
    · skip
      have c_8 := (xn_geT k x c_8 (by omega) (by omega))
      obtain rfl : x = k := (by omega)
      refine x_iload_n C dX7_packed_35 rfl ?_
      exact x_iret B0 dX7_packed_36 rfl (by exact ⟨rfl, hM⟩)
    · skip
      have c_8 := (xn_geF k x c_8 (by omega) (by omega))
      refine x_bipush C (nI 27) dX7_packed_11 rfl ?_
      refine x_iload_n C dX7_packed_13 rfl ?_
      refine x_imul C dX7_packed_14 ?_
      refine x_aload_n C dX7_packed_15 rfl ?_
      refine m_getA C dX7_packed_16 fl_X7_33_6 hM rfl ?_
      refine x_iload_n C dX7_packed_19 rfl ?_
      refine x_iload C dX7_packed_20 rfl ?_
      refine x_iadd C dX7_packed_22 ?_
      refine x_toi (nI (a + k)) (nI_add _ _) ?_
      refine m_ld C dX7_packed_23 hM rfl (j := a + k) rfl (show _ < 700 from by omega) ?_
      refine x_iadd C dX7_packed_24 ?_
      refine x_bipush C (nI 96) dX7_packed_25 rfl ?_
      refine x_isub C dX7_packed_27 ?_
      refine x_istore_n C dX7_packed_28 (by decide) rfl ?_
      refine x_iinc C (nI (k + 1)) dX7_packed_29 rfl (nI_add _ 1) (by decide) rfl ?_
      refine x_goto C 5 dX7_packed_32 (by decide) ?_
      refine x_locs2 [(0, .ref m), (1, .int (nI a)), (2, .int (nI x)), (3, .int ((((nI 27) * (pk (B 9) a k)) + (B 9 (a + k))) - (nI 96))), (4, .int (nI (k + 1)))] ⟨rfl, rfl, rfl, rfl, rfl, trivial⟩ ?_
      exact ih5 _ (by omega) (k + 1) rfl (by omega) h (by exact hM)
  refine x_locs2 [(0, .ref m), (1, .int (nI a)), (2, .int (nI x)), (3, .int (nI 0)), (4, .int (nI 0))] ⟨rfl, rfl, rfl, rfl, rfl, trivial⟩ ?_
  exact L5 _ 0 rfl (by omega) h (by exact hM)
theorem c_X7_streetNamed {G : xG} {l : Launch} (hl : l.stackTraces = false) {m : Nat} {A : Nat → Nat} {F n : Nat → Int32} {B : Nat → Nat → Int32} {h0 h : xAH} (hM : MW m A F n B h0 h) (S : Nat) (hS : n 6 = nI S) (hS8 : S ≤ 8) (x : Int32) : xM G l yX7_streetNamed cX7_streetNamed 3 (Option.some Jvm.ClassFile.FieldType.int) [] 2 0 0 [.ref m, .int x] h (fun r h2 => r = some (.int (oI (sp_find n 16 x S 0))) ∧ MW m A F n B h0 h2) xNo := by
  refine xcode_start (by decide) (Nat.le_of_ble_eq_true rfl) hl ?_
  intro E hE B0
  subst hE
  have C := B0.1
  show xW G E 3 0 0 h 0 [(0, .ref m), (1, .int x)] []
  refine x_iconst C (nI 0) dX7_streetNamed_0 rfl ?_
  refine x_istore_n C dX7_streetNamed_1 (by decide) rfl ?_
  have L2 : ∀ (d : Nat) (s : Nat), S - s = d → s ≤ S → sp_find n 16 x (S - s) s = sp_find n 16 x S 0 → ∀ h, MW m A F n B h0 h → xW G E 3 0 0 h 2 [(0, .ref m), (1, .int x), (2, .int (nI s))] [] := by
    intro d
    induction d using Nat.strongRecOn with | _ d ih2 => ?_
    intro s hd2 hk hw h hM
    refine x_iload_n C dX7_streetNamed_2 rfl ?_
    refine x_aload_n C dX7_streetNamed_3 rfl ?_
    refine m_getN C dX7_streetNamed_4 fl_X7_7_6 hM ?_
    refine x_bipush C (nI 6) dX7_streetNamed_7 rfl ?_
    refine m_ldN C dX7_streetNamed_9 hM (j := 6) rfl (by omega) ?_
    refine x_toi (nI S) hS ?_
    refine x_icmp_ge C 31 dX7_streetNamed_10 (by decide) (fun c_10 => ?_) (fun c_10 => ?_)
    · skip
      have c_10 := (xn_geT s S c_10 (by omega) (by omega))
      refine x_iconst C (-1) dX7_streetNamed_31 rfl ?_
      exact x_iret B0 dX7_streetNamed_32 rfl (⟨by rw [← hw]; first | (rw [sp_find_hit c_10 c_20]; rfl) | (rw [sp_find_end c_10]; rfl), hM⟩)
    · skip
      have c_10 := (xn_geF s S c_10 (by omega) (by omega))
      refine x_aload_n C dX7_streetNamed_13 rfl ?_
      refine x_iload_n C dX7_streetNamed_14 rfl ?_
      refine x_iconst C (nI 0) dX7_streetNamed_15 rfl ?_
      refine x_callV (mc' := 0) (ms' := 0) C dX7_streetNamed_16 (c_X7_ofS hl hM s 0 (by omega)) mf_X7_ofS q3754 q3756 qs78 (Or.inl hM.1) rfl rfl rfl (Nat.le_of_ble_eq_true rfl) (by decide) rfl rfl (fun r h hP => ?_) (fun _ _ _ hX => False.elim hX)
      obtain ⟨rfl, hM⟩ := hP
      refine x_iload_n C dX7_streetNamed_19 rfl ?_
      refine x_icmp_ne C 25 dX7_streetNamed_20 (by decide) (fun c_20 => ?_) (fun c_20 => ?_)
      · skip
        refine x_iinc C (nI (s + 1)) dX7_streetNamed_25 rfl (nI_add _ 1) (by decide) rfl ?_
        refine x_goto C 2 dX7_streetNamed_28 (by decide) ?_
        refine x_locs2 [(0, .ref m), (1, .int x), (2, .int (nI (s + 1)))] ⟨rfl, rfl, rfl, trivial⟩ ?_
        exact ih2 _ (by omega) (s + 1) rfl (by omega) (by rw [← hw]; exact (sp_find_go c_10 c_20).symm) h (by exact hM)
      · skip
        refine x_iload_n C dX7_streetNamed_23 rfl ?_
        exact x_iret B0 dX7_streetNamed_24 rfl (⟨by rw [← hw]; first | (rw [sp_find_hit c_10 c_20]; rfl) | (rw [sp_find_end c_10]; rfl), hM⟩)
  refine x_locs2 [(0, .ref m), (1, .int x), (2, .int (nI 0))] ⟨rfl, rfl, rfl, trivial⟩ ?_
  exact L2 _ 0 rfl (by omega) rfl h (by exact hM)
theorem c_X7_gardenNamed {G : xG} {l : Launch} (hl : l.stackTraces = false) {m : Nat} {A : Nat → Nat} {F n : Nat → Int32} {B : Nat → Nat → Int32} {h0 h : xAH} (hM : MW m A F n B h0 h) (S : Nat) (hS : n 7 = nI S) (hS8 : S ≤ 6) (x : Int32) : xM G l yX7_gardenNamed cX7_gardenNamed 3 (Option.some Jvm.ClassFile.FieldType.int) [] 2 0 0 [.ref m, .int x] h (fun r h2 => r = some (.int (oI (sp_find n 88 x S 0))) ∧ MW m A F n B h0 h2) xNo := by
  refine xcode_start (by decide) (Nat.le_of_ble_eq_true rfl) hl ?_
  intro E hE B0
  subst hE
  have C := B0.1
  show xW G E 3 0 0 h 0 [(0, .ref m), (1, .int x)] []
  refine x_iconst C (nI 0) dX7_gardenNamed_0 rfl ?_
  refine x_istore_n C dX7_gardenNamed_1 (by decide) rfl ?_
  have L2 : ∀ (d : Nat) (s : Nat), S - s = d → s ≤ S → sp_find n 88 x (S - s) s = sp_find n 88 x S 0 → ∀ h, MW m A F n B h0 h → xW G E 3 0 0 h 2 [(0, .ref m), (1, .int x), (2, .int (nI s))] [] := by
    intro d
    induction d using Nat.strongRecOn with | _ d ih2 => ?_
    intro s hd2 hk hw h hM
    refine x_iload_n C dX7_gardenNamed_2 rfl ?_
    refine x_aload_n C dX7_gardenNamed_3 rfl ?_
    refine m_getN C dX7_gardenNamed_4 fl_X7_7_6 hM ?_
    refine x_bipush C (nI 7) dX7_gardenNamed_7 rfl ?_
    refine m_ldN C dX7_gardenNamed_9 hM (j := 7) rfl (by omega) ?_
    refine x_toi (nI S) hS ?_
    refine x_icmp_ge C 31 dX7_gardenNamed_10 (by decide) (fun c_10 => ?_) (fun c_10 => ?_)
    · skip
      have c_10 := (xn_geT s S c_10 (by omega) (by omega))
      refine x_iconst C (-1) dX7_gardenNamed_31 rfl ?_
      exact x_iret B0 dX7_gardenNamed_32 rfl (⟨by rw [← hw]; first | (rw [sp_find_hit c_10 c_20]; rfl) | (rw [sp_find_end c_10]; rfl), hM⟩)
    · skip
      have c_10 := (xn_geF s S c_10 (by omega) (by omega))
      refine x_aload_n C dX7_gardenNamed_13 rfl ?_
      refine x_iload_n C dX7_gardenNamed_14 rfl ?_
      refine x_iconst C (nI 0) dX7_gardenNamed_15 rfl ?_
      refine x_callV (mc' := 0) (ms' := 0) C dX7_gardenNamed_16 (c_X7_ofG hl hM s 0 (by omega)) mf_X7_ofG q3762 q3764 qs80 (Or.inl hM.1) rfl rfl rfl (Nat.le_of_ble_eq_true rfl) (by decide) rfl rfl (fun r h hP => ?_) (fun _ _ _ hX => False.elim hX)
      obtain ⟨rfl, hM⟩ := hP
      refine x_iload_n C dX7_gardenNamed_19 rfl ?_
      refine x_icmp_ne C 25 dX7_gardenNamed_20 (by decide) (fun c_20 => ?_) (fun c_20 => ?_)
      · skip
        refine x_iinc C (nI (s + 1)) dX7_gardenNamed_25 rfl (nI_add _ 1) (by decide) rfl ?_
        refine x_goto C 2 dX7_gardenNamed_28 (by decide) ?_
        refine x_locs2 [(0, .ref m), (1, .int x), (2, .int (nI (s + 1)))] ⟨rfl, rfl, rfl, trivial⟩ ?_
        exact ih2 _ (by omega) (s + 1) rfl (by omega) (by rw [← hw]; exact (sp_find_go c_10 c_20).symm) h (by exact hM)
      · skip
        refine x_iload_n C dX7_gardenNamed_23 rfl ?_
        exact x_iret B0 dX7_gardenNamed_24 rfl (⟨by rw [← hw]; first | (rw [sp_find_hit c_10 c_20]; rfl) | (rw [sp_find_end c_10]; rfl), hM⟩)
  refine x_locs2 [(0, .ref m), (1, .int x), (2, .int (nI 0))] ⟨rfl, rfl, rfl, trivial⟩ ?_
  exact L2 _ 0 rfl (by omega) rfl h (by exact hM)
theorem c_X7_streetOn {G : xG} {l : Launch} (hl : l.stackTraces = false) {m : Nat} {A : Nat → Nat} {F n : Nat → Int32} {B : Nat → Nat → Int32} {h0 h : xAH} (hM : MW m A F n B h0 h) (S : Nat) (hS : n 6 = nI S) (hS8 : S ≤ 8) (x y : Int32) : xM G l yX7_streetOn cX7_streetOn 4 (Option.some Jvm.ClassFile.FieldType.int) [] 2 0 0 [.ref m, .int x, .int y] h (fun r h2 => r = some (.int (oI (sp_on2 n 16 x y S 0))) ∧ MW m A F n B h0 h2) xNo := by
  refine xcode_start (by decide) (Nat.le_of_ble_eq_true rfl) hl ?_
  intro E hE B0
  subst hE
  have C := B0.1
  show xW G E 4 0 0 h 0 [(0, .ref m), (1, .int x), (2, .int y)] []
  refine x_iconst C (nI 0) dX7_streetOn_0 rfl ?_
  refine x_istore_n C dX7_streetOn_1 (by decide) rfl ?_
  have L2 : ∀ (d : Nat) (s : Nat), S - s = d → s ≤ S → sp_on2 n 16 x y (S - s) s = sp_on2 n 16 x y S 0 → ∀ h, MW m A F n B h0 h → xW G E 4 0 0 h 2 [(0, .ref m), (1, .int x), (2, .int y), (3, .int (nI s))] [] := by
    intro d
    induction d using Nat.strongRecOn with | _ d ih2 => ?_
    intro s hd2 hk hw h hM
    refine x_iload_n C dX7_streetOn_2 rfl ?_
    refine x_aload_n C dX7_streetOn_3 rfl ?_
    refine m_getN C dX7_streetOn_4 fl_X7_7_6 hM ?_
    refine x_bipush C (nI 6) dX7_streetOn_7 rfl ?_
    refine m_ldN C dX7_streetOn_9 hM (j := 6) rfl (by omega) ?_
    refine x_toi (nI S) hS ?_
    refine x_icmp_ge C 41 dX7_streetOn_10 (by decide) (fun c_10 => ?_) (fun c_10 => ?_)
    · skip
      have c_10 := (xn_geT s S c_10 (by omega) (by omega))
      refine x_iconst C (-1) dX7_streetOn_41 rfl ?_
      exact x_iret B0 dX7_streetOn_42 rfl (⟨by rw [← hw]; first | (rw [sp_on2_hit c_10 ⟨c_20, c_30⟩]; rfl) | (rw [sp_on2_end c_10]; rfl), hM⟩)
    · skip
      have c_10 := (xn_geF s S c_10 (by omega) (by omega))
      refine x_aload_n C dX7_streetOn_13 rfl ?_
      refine x_iload_n C dX7_streetOn_14 rfl ?_
      refine x_iconst C (nI 1) dX7_streetOn_15 rfl ?_
      refine x_callV (mc' := 0) (ms' := 0) C dX7_streetOn_16 (c_X7_ofS hl hM s 1 (by omega)) mf_X7_ofS q3754 q3756 qs78 (Or.inl hM.1) rfl rfl rfl (Nat.le_of_ble_eq_true rfl) (by decide) rfl rfl (fun r h hP => ?_) (fun _ _ _ hX => False.elim hX)
      obtain ⟨rfl, hM⟩ := hP
      refine x_iload_n C dX7_streetOn_19 rfl ?_
      refine x_icmp_ne C 35 dX7_streetOn_20 (by decide) (fun c_20 => ?_) (fun c_20 => ?_)
      · skip
        refine x_iinc C (nI (s + 1)) dX7_streetOn_35 rfl (nI_add _ 1) (by decide) rfl ?_
        refine x_goto C 2 dX7_streetOn_38 (by decide) ?_
        refine x_locs2 [(0, .ref m), (1, .int x), (2, .int y), (3, .int (nI (s + 1)))] ⟨rfl, rfl, rfl, rfl, trivial⟩ ?_
        exact ih2 _ (by omega) (s + 1) rfl (by omega) (by rw [← hw]; first | exact (sp_on2_go c_10 (fun q => c_20 q.1)).symm | exact (sp_on2_go c_10 (fun q => c_30 q.2)).symm) h (by exact hM)
      · skip
        refine x_aload_n C dX7_streetOn_23 rfl ?_
        refine x_iload_n C dX7_streetOn_24 rfl ?_
        refine x_iconst C (nI 2) dX7_streetOn_25 rfl ?_
        refine x_callV (mc' := 0) (ms' := 0) C dX7_streetOn_26 (c_X7_ofS hl hM s 2 (by omega)) mf_X7_ofS q3754 q3756 qs78 (Or.inl hM.1) rfl rfl rfl (Nat.le_of_ble_eq_true rfl) (by decide) rfl rfl (fun r h hP => ?_) (fun _ _ _ hX => False.elim hX)
        obtain ⟨rfl, hM⟩ := hP
        refine x_iload_n C dX7_streetOn_29 rfl ?_
        refine x_icmp_ne C 35 dX7_streetOn_30 (by decide) (fun c_30 => ?_) (fun c_30 => ?_)
        · skip
          refine x_iinc C (nI (s + 1)) dX7_streetOn_35 rfl (nI_add _ 1) (by decide) rfl ?_
          refine x_goto C 2 dX7_streetOn_38 (by decide) ?_
          refine x_locs2 [(0, .ref m), (1, .int x), (2, .int y), (3, .int (nI (s + 1)))] ⟨rfl, rfl, rfl, rfl, trivial⟩ ?_
          exact ih2 _ (by omega) (s + 1) rfl (by omega) (by rw [← hw]; first | exact (sp_on2_go c_10 (fun q => c_20 q.1)).symm | exact (sp_on2_go c_10 (fun q => c_30 q.2)).symm) h (by exact hM)
        · skip
          refine x_iload_n C dX7_streetOn_33 rfl ?_
          exact x_iret B0 dX7_streetOn_34 rfl (⟨by rw [← hw]; first | (rw [sp_on2_hit c_10 ⟨c_20, c_30⟩]; rfl) | (rw [sp_on2_end c_10]; rfl), hM⟩)
  refine x_locs2 [(0, .ref m), (1, .int x), (2, .int y), (3, .int (nI 0))] ⟨rfl, rfl, rfl, rfl, trivial⟩ ?_
  exact L2 _ 0 rfl (by omega) rfl h (by exact hM)
theorem c_X7_isTaken {G : xG} {l : Launch} (hl : l.stackTraces = false) {m : Nat} {A : Nat → Nat} {F n : Nat → Int32} {B : Nat → Nat → Int32} {h0 h : xAH} (hM : MW m A F n B h0 h) (S Gn : Nat) (hS : n 6 = nI S) (hS8 : S ≤ 8) (hG : n 7 = nI Gn) (hG6 : Gn ≤ 6) (x y : Int32) : xM G l yX7_isTaken cX7_isTaken 4 (Option.some Jvm.ClassFile.FieldType.boolean) [] 3 0 0 [.ref m, .int x, .int y] h (fun r h2 => r = some (.int (bI (sp_taken n S Gn x y))) ∧ MW m A F n B h0 h2) xNo := by
  refine xcode_start (by decide) (Nat.le_of_ble_eq_true rfl) hl ?_
  intro E hE B0
  subst hE
  have C := B0.1
  show xW G E 4 0 0 h 0 [(0, .ref m), (1, .int x), (2, .int y)] []
  refine x_iconst C (nI 0) dX7_isTaken_0 rfl ?_
  refine x_istore_n C dX7_isTaken_1 (by decide) rfl ?_
  have L2 : ∀ (d : Nat) (s : Nat), Gn - s = d → s ≤ Gn → sp_on2 n 88 x y (Gn - s) s = sp_on2 n 88 x y Gn 0 → ∀ h, MW m A F n B h0 h → xW G E 4 0 0 h 2 [(0, .ref m), (1, .int x), (2, .int y), (3, .int (nI s))] [] := by
    intro d
    induction d using Nat.strongRecOn with | _ d ih2 => ?_
    intro s hd2 hk hw h hM
    refine x_iload_n C dX7_isTaken_2 rfl ?_
    refine x_aload_n C dX7_isTaken_3 rfl ?_
    refine m_getN C dX7_isTaken_4 fl_X7_7_6 hM ?_
    refine x_bipush C (nI 7) dX7_isTaken_7 rfl ?_
    refine m_ldN C dX7_isTaken_9 hM (j := 7) rfl (by omega) ?_
    refine x_toi (nI Gn) hG ?_
    refine x_icmp_ge C 41 dX7_isTaken_10 (by decide) (fun c_10 => ?_) (fun c_10 => ?_)
    · skip
      have c_10 := (xn_geT s Gn c_10 (by omega) (by omega))
      refine x_aload_n C dX7_isTaken_41 rfl ?_
      refine x_iload_n C dX7_isTaken_42 rfl ?_
      refine x_iload_n C dX7_isTaken_43 rfl ?_
      refine x_callV (mc' := 0) (ms' := 0) C dX7_isTaken_44 (c_X7_streetOn hl hM S (by exact hS) (by omega) x y) mf_X7_streetOn q3770 q3772 qs82 (Or.inl hM.1) rfl rfl rfl (Nat.le_of_ble_eq_true rfl) (by decide) rfl rfl (fun r h hP => ?_) (fun _ _ _ hX => False.elim hX)
      obtain ⟨rfl, hM⟩ := hP
      refine x_iconst C (-1) dX7_isTaken_47 rfl ?_
      refine x_sel_icmp_eq C 55 56 dX7_isTaken_48 (by decide) dX7_isTaken_51 dX7_isTaken_52 (by decide) dX7_isTaken_55 rfl ?_
      exact x_zret B0 dX7_isTaken_56 rfl (bI_nar _) (⟨by unfold sp_taken; rw [← hw]; first | (rw [sp_on2_hit c_10 ⟨c_20, c_30⟩]; rfl) | (rw [sp_on2_end c_10]; exact congrArg _ (congrArg _ (congrArg bI (oI_isS (by omega)).symm))), hM⟩)
    · skip
      have c_10 := (xn_geF s Gn c_10 (by omega) (by omega))
      refine x_aload_n C dX7_isTaken_13 rfl ?_
      refine x_iload_n C dX7_isTaken_14 rfl ?_
      refine x_iconst C (nI 1) dX7_isTaken_15 rfl ?_
      refine x_callV (mc' := 0) (ms' := 0) C dX7_isTaken_16 (c_X7_ofG hl hM s 1 (by omega)) mf_X7_ofG q3762 q3764 qs80 (Or.inl hM.1) rfl rfl rfl (Nat.le_of_ble_eq_true rfl) (by decide) rfl rfl (fun r h hP => ?_) (fun _ _ _ hX => False.elim hX)
      obtain ⟨rfl, hM⟩ := hP
      refine x_iload_n C dX7_isTaken_19 rfl ?_
      refine x_icmp_ne C 35 dX7_isTaken_20 (by decide) (fun c_20 => ?_) (fun c_20 => ?_)
      · skip
        refine x_iinc C (nI (s + 1)) dX7_isTaken_35 rfl (nI_add _ 1) (by decide) rfl ?_
        refine x_goto C 2 dX7_isTaken_38 (by decide) ?_
        refine x_locs2 [(0, .ref m), (1, .int x), (2, .int y), (3, .int (nI (s + 1)))] ⟨rfl, rfl, rfl, rfl, trivial⟩ ?_
        exact ih2 _ (by omega) (s + 1) rfl (by omega) (by rw [← hw]; first | exact (sp_on2_go c_10 (fun q => c_20 q.1)).symm | exact (sp_on2_go c_10 (fun q => c_30 q.2)).symm) h (by exact hM)
      · skip
        refine x_aload_n C dX7_isTaken_23 rfl ?_
        refine x_iload_n C dX7_isTaken_24 rfl ?_
        refine x_iconst C (nI 2) dX7_isTaken_25 rfl ?_
        refine x_callV (mc' := 0) (ms' := 0) C dX7_isTaken_26 (c_X7_ofG hl hM s 2 (by omega)) mf_X7_ofG q3762 q3764 qs80 (Or.inl hM.1) rfl rfl rfl (Nat.le_of_ble_eq_true rfl) (by decide) rfl rfl (fun r h hP => ?_) (fun _ _ _ hX => False.elim hX)
        obtain ⟨rfl, hM⟩ := hP
        refine x_iload_n C dX7_isTaken_29 rfl ?_
        refine x_icmp_ne C 35 dX7_isTaken_30 (by decide) (fun c_30 => ?_) (fun c_30 => ?_)
        · skip
          refine x_iinc C (nI (s + 1)) dX7_isTaken_35 rfl (nI_add _ 1) (by decide) rfl ?_
          refine x_goto C 2 dX7_isTaken_38 (by decide) ?_
          refine x_locs2 [(0, .ref m), (1, .int x), (2, .int y), (3, .int (nI (s + 1)))] ⟨rfl, rfl, rfl, rfl, trivial⟩ ?_
          exact ih2 _ (by omega) (s + 1) rfl (by omega) (by rw [← hw]; first | exact (sp_on2_go c_10 (fun q => c_20 q.1)).symm | exact (sp_on2_go c_10 (fun q => c_30 q.2)).symm) h (by exact hM)
        · skip
          refine x_iconst C (nI 1) dX7_isTaken_33 rfl ?_
          exact x_zret B0 dX7_isTaken_34 rfl rfl (⟨by unfold sp_taken; rw [← hw]; first | (rw [sp_on2_hit c_10 ⟨c_20, c_30⟩]; rfl) | (rw [sp_on2_end c_10]; exact congrArg _ (congrArg _ (congrArg bI (oI_isS (by omega)).symm))), hM⟩)
  refine x_locs2 [(0, .ref m), (1, .int x), (2, .int y), (3, .int (nI 0))] ⟨rfl, rfl, rfl, rfl, trivial⟩ ?_
  exact L2 _ 0 rfl (by omega) rfl h (by exact hM)
theorem c_X7_looksAtName {G : xG} {l : Launch} (hl : l.stackTraces = false) {m : Nat} {A : Nat → Nat} {F n : Nat → Int32} {B : Nat → Nat → Int32} {h0 h : xAH} (hM : MW m A F n B h0 h) (hP : Pok F)  : xM G l yX7_looksAtName cX7_looksAtName 1 (Option.some Jvm.ClassFile.FieldType.int) [] 2 0 0 [.ref m] h (fun r h2 => r = some (.int (sp_lnv (B 9) (sp_lname F))) ∧ MW m A (sp_lname F) n B h0 h2) xNo := by
  refine xcode_start (by decide) (Nat.le_of_ble_eq_true rfl) hl ?_
  intro E hE B0
  subst hE
  have C := B0.1
  show xW G E 1 0 0 h 0 [(0, .ref m)] []
  refine x_aload_n C dX7_looksAtName_0 rfl ?_
  refine x_aload_n C dX7_looksAtName_1 rfl ?_
  refine m_getI C dX7_looksAtName_2 fl_X7_192_6 hM rfl ?_
  refine x_iconst C (nI 1) dX7_looksAtName_5 rfl ?_
  refine x_sel_icmp_ne C 13 14 dX7_looksAtName_6 (by decide) dX7_looksAtName_9 dX7_looksAtName_10 (by decide) dX7_looksAtName_13 rfl ?_
  refine x_iconst C (nI 1) dX7_looksAtName_14 rfl ?_
  refine x_callV (mc' := 0) (ms' := 0) C dX7_looksAtName_15 (c_X7_must hl hM (decide ((F 15) = (nI 1))) (nI 1)) mf_X7_must q3709 q3711 qs67 (Or.inl hM.1) rfl rfl rfl (Nat.le_of_ble_eq_true rfl) (by decide) rfl rfl (fun r h hP => ?_) (fun _ _ _ hX => False.elim hX)
  obtain ⟨rfl, hM⟩ := hP
  obtain ⟨F1, eF1, hM⟩ := MW.nameF hM
  have hP_F1 : Pok F1 := by rw [eF1]; exact hP.must _ _
  have J46 : ∀ (FJ : Nat → Int32), FJ = sp_lname F → ∀ h, MW m A FJ n B h0 h → xW G E 1 0 0 h 46 [(0, .ref m)] [] := by
    intro FJ eJ h hM
    refine x_aload_n C dX7_looksAtName_46 rfl ?_
    refine m_getI C dX7_looksAtName_47 fl_X7_198_6 hM rfl ?_
    refine x_if_ne C 73 dX7_looksAtName_50 (by decide) (fun c_50 => ?_) (fun c_50 => ?_)
    · skip
      refine x_iconst C (nI 0) dX7_looksAtName_73 rfl ?_
      exact x_iret B0 dX7_looksAtName_74 rfl (by subst eJ; exact ⟨by unfold sp_lnv; first | rw [if_pos c_50] | rw [if_neg c_50], hM⟩)
    · skip
      have hPJ : Pok FJ := by rw [eJ]; exact hP.lname
      have q1 := hPJ.2.2.2.1; have q2 := hPJ.2.1.2
      refine x_aload_n C dX7_looksAtName_53 rfl ?_
      refine x_aload_n C dX7_looksAtName_54 rfl ?_
      refine m_getI C dX7_looksAtName_55 fl_X7_189_6 hM rfl ?_
      refine x_toi (nI (cn (FJ 14))) hPJ.2.2.1.1 ?_
      refine x_aload_n C dX7_looksAtName_58 rfl ?_
      refine m_getI C dX7_looksAtName_59 fl_X7_183_6 hM rfl ?_
      refine x_toi (nI (cn (FJ 13))) hPJ.2.1.1 ?_
      refine x_aload_n C dX7_looksAtName_62 rfl ?_
      refine m_getI C dX7_looksAtName_63 fl_X7_189_6 hM rfl ?_
      refine x_toi (nI (cn (FJ 14))) hPJ.2.2.1.1 ?_
      refine x_isub C dX7_looksAtName_66 ?_
      refine x_toi (nI ((cn (FJ 13)) - (cn (FJ 14)))) (pk_sub (by omega)) ?_
      refine x_callV (mc' := 0) (ms' := 0) C dX7_looksAtName_67 (c_X7_packed hl hM (cn (FJ 14)) ((cn (FJ 13)) - (cn (FJ 14))) (by omega)) mf_X7_packed q3746 q3748 qs76 (Or.inl hM.1) rfl rfl rfl (Nat.le_of_ble_eq_true rfl) (by decide) rfl rfl (fun r h hP => ?_) (fun _ _ _ hX => False.elim hX)
      obtain ⟨rfl, hM⟩ := hP
      refine x_goto C 74 dX7_looksAtName_70 (by decide) ?_
      exact x_iret B0 dX7_looksAtName_74 rfl (by subst eJ; exact ⟨by unfold sp_lnv; first | rw [if_pos c_50] | rw [if_neg c_50], hM⟩)
  by_cases hb_18 : sp_must F (decide ((F 15) = (nI 1))) (nI 1) 17 = 0
  · refine x_toi (nI 1) (bI_t hb_18) ?_
    refine x_if_eq C 46 dX7_looksAtName_18 (by decide) (fun c_18 => ?_) (fun c_18 => ?_)
    · exact absurd c_18 (by decide)
    refine x_aload_n C dX7_looksAtName_21 rfl ?_
    refine x_aload_n C dX7_looksAtName_22 rfl ?_
    refine m_getI C dX7_looksAtName_23 fl_X7_183_6 hM rfl ?_
    refine x_aload_n C dX7_looksAtName_26 rfl ?_
    refine m_getI C dX7_looksAtName_27 fl_X7_189_6 hM rfl ?_
    refine x_isub C dX7_looksAtName_30 ?_
    refine x_bipush C (nI 6) dX7_looksAtName_31 rfl ?_
    refine x_sel_icmp_gt C 40 41 dX7_looksAtName_33 (by decide) dX7_looksAtName_36 dX7_looksAtName_37 (by decide) dX7_looksAtName_40 rfl ?_
    refine x_iconst C (nI 2) dX7_looksAtName_41 rfl ?_
    refine x_callV (mc' := 0) (ms' := 0) C dX7_looksAtName_42 (c_X7_must hl hM (decide (((F1 13) - (F1 14)) ≤ (nI 6))) (nI 2)) mf_X7_must q3709 q3711 qs67 (Or.inl hM.1) rfl rfl rfl (Nat.le_of_ble_eq_true rfl) (by decide) rfl rfl (fun r h hP => ?_) (fun _ _ _ hX => False.elim hX)
    obtain ⟨rfl, hM⟩ := hP
    obtain ⟨F2, eF2, hM⟩ := MW.nameF hM
    have hP_F2 : Pok F2 := by rw [eF2]; exact hP_F1.must _ _
    refine x_pop C dX7_looksAtName_45 rfl ?_
    refine x_locs2 [(0, .ref m)] ⟨rfl, trivial⟩ ?_
    exact J46 F2 (by subst eF2; subst eF1; unfold sp_lname sp_lname1; first | exact (if_pos hb_18).symm | exact (if_neg hb_18).symm) h (by exact hM)
  · refine x_toi (nI 0) (bI_f hb_18) ?_
    refine x_if_eq C 46 dX7_looksAtName_18 (by decide) (fun c_18 => ?_) (fun c_18 => ?_)
    rotate_left
    · exact absurd c_18 (by decide)
    refine x_locs2 [(0, .ref m)] ⟨rfl, trivial⟩ ?_
    exact J46 F1 (by subst eF1; unfold sp_lname sp_lname1; first | exact (if_pos hb_18).symm | exact (if_neg hb_18).symm) h (by exact hM)
