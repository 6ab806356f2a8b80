/-! ===== the reference: the night ===== -/
theorem c_X7_delivers {G : xG} {l : Launch} (hl : l.stackTraces = false) {m : Nat} {A : Nat → Nat} {F n : Nat → Int32} {B : Nat → Nat → Int32} {h0 h : xAH} (hM : MW m A F n B h0 h) {S Gn Cn T : Nat} (hI : Ginv n S Gn Cn T) (c : Nat) (hc : c < Cn) : xM G l yX7_delivers cX7_delivers 5 (Option.none : Option Jvm.ClassFile.FieldType) [] 4 0 0 [.ref m, .int (nI c)] h (fun r h2 => r = none ∧ MW m A F (sp_deliver n S c) B h0 h2) xNo := by
  refine xcode_start (by decide) (Nat.le_of_ble_eq_true rfl) hl ?_
  intro E hE B0
  subst hE
  have C := B0.1
  have hS8 := hI.S8; have hG6 := hI.G6; have hC6 := hI.C6; have hT := hI.T0; have hf := (hI.fr hc).2; have ht := (hI.to hc).2
  show xW G E 5 0 0 h 0 [(0, .ref m), (1, .int (nI c))] []
  refine x_aload_n C dX7_delivers_0 rfl ?_
  refine x_iload_n C dX7_delivers_1 rfl ?_
  refine x_callV (mc' := 0) (ms' := 0) C dX7_delivers_2 (c_X7_loadOf hl hM hI c (by omega)) mf_X7_loadOf q4037 q4039 qs114 (Or.inl hM.1) rfl rfl rfl (Nat.le_of_ble_eq_true rfl) (by decide) rfl rfl (fun r h hP => ?_) (fun _ _ _ hX => False.elim hX)
  obtain ⟨rfl, hM⟩ := hP
  refine x_istore_n C dX7_delivers_5 (by decide) rfl ?_
  obtain ⟨load, eload⟩ : ∃ z, z = sp_load n c := ⟨_, rfl⟩
  rw [← eload]
  have hlb : lt load 61 := by rw [eload]; exact hI.load hc
  refine x_iload_n C dX7_delivers_6 rfl ?_
  refine x_if_ne C 11 dX7_delivers_7 (by decide) (fun c_7 => ?_) (fun c_7 => ?_)
  · skip
    have ed : sp_deliver n S c = sp_deliver1 n S c load := by rw [eload]; exact if_neg (by rw [← eload]; exact c_7)
    refine x_aload_n C dX7_delivers_11 rfl ?_
    refine x_iload_n C dX7_delivers_12 rfl ?_
    refine x_iconst C (nI 2) dX7_delivers_13 rfl ?_
    refine x_callV (mc' := 0) (ms' := 0) C dX7_delivers_14 (c_X7_ofC hl hM c 2 (by omega)) mf_X7_ofC q3991 q3993 qs103 (Or.inl hM.1) rfl rfl rfl (Nat.le_of_ble_eq_true rfl) (by decide) rfl rfl (fun r h hP => ?_) (fun _ _ _ hX => False.elim hX)
    obtain ⟨rfl, hM⟩ := hP
    refine x_toi (nI (cn (n (142 + 5 * c + 2)))) (hI.fr hc).1 ?_
    refine x_istore_n C dX7_delivers_17 (by decide) rfl ?_
    refine x_aload_n C dX7_delivers_18 rfl ?_
    refine x_iload_n C dX7_delivers_19 rfl ?_
    refine x_iconst C (nI 5) dX7_delivers_20 rfl ?_
    refine x_iload_n C dX7_delivers_21 rfl ?_
    refine x_ineg C dX7_delivers_22 ?_
    refine x_callV (mc' := 0) (ms' := 0) C dX7_delivers_23 (c_X7_addS hl hM (cn (n (142 + 5 * c + 2))) 5 (-load) (by omega)) mf_X7_addS q4029 q4031 qs112 (Or.inl hM.1) rfl rfl rfl (Nat.le_of_ble_eq_true rfl) (by decide) rfl rfl (fun r h hP => ?_) (fun _ _ _ hX => False.elim hX)
    obtain ⟨rfl, hM⟩ := hP
    obtain ⟨n1, en1, hM⟩ := MW.nameN hM
    have hI_n1 : Ginv n1 S Gn Cn T := by rw [en1]; exact hI.upS hf 5 (by decide) (by decide) (hI.bins_sub hc eload c_7)
    refine x_aload_n C dX7_delivers_26 rfl ?_
    refine m_getN C dX7_delivers_27 fl_X7_7_6 hM ?_
    refine x_bipush C (nI 16) dX7_delivers_30 rfl ?_
    refine x_bipush C (nI 9) dX7_delivers_32 rfl ?_
    refine x_iload_n C dX7_delivers_34 rfl ?_
    refine x_imul C dX7_delivers_35 ?_
    refine x_toi (nI (9 * (cn (n (142 + 5 * c + 2))))) (pk_mul _ _) ?_
    refine x_iadd C dX7_delivers_36 ?_
    refine x_toi (nI (16 + (9 * (cn (n (142 + 5 * c + 2)))))) (nI_add _ _) ?_
    refine x_bipush C (nI 8) dX7_delivers_37 rfl ?_
    refine x_iadd C dX7_delivers_39 ?_
    refine x_toi (nI ((16 + (9 * (cn (n (142 + 5 * c + 2))))) + 8)) (nI_add _ _) ?_
    refine x_iconst C (nI 1) dX7_delivers_40 rfl ?_
    refine m_stN C dX7_delivers_41 hM (j := (16 + (9 * (cn (n (142 + 5 * c + 2))))) + 8) rfl (by omega) (fun h hM => ?_)
    obtain ⟨n2, en2, hM⟩ := MW.nameN hM
    have hI_n2 : Ginv n2 S Gn Cn T := by rw [en2]; exact hI_n1.upS hf 8 (by decide) (by decide) (v := 1) (lt_nI (a := 1) (by decide) (by decide))
    refine x_aload_n C dX7_delivers_42 rfl ?_
    refine x_aload_n C dX7_delivers_43 rfl ?_
    refine x_iload_n C dX7_delivers_44 rfl ?_
    refine x_iconst C (nI 3) dX7_delivers_45 rfl ?_
    refine x_callV (mc' := 0) (ms' := 0) C dX7_delivers_46 (c_X7_ofC hl hM c 3 (by omega)) mf_X7_ofC q3991 q3993 qs103 (Or.inl hM.1) rfl rfl rfl (Nat.le_of_ble_eq_true rfl) (by decide) rfl rfl (fun r h hP => ?_) (fun _ _ _ hX => False.elim hX)
    obtain ⟨rfl, hM⟩ := hP
    refine x_toi (nI (cn (n (142 + 5 * c + 3)))) (by subst en2; subst en1; (repeat rw [va_ne (by omega)]); exact (hI.to hc).1) ?_
    refine x_iconst C (nI 4) dX7_delivers_49 rfl ?_
    refine x_iload_n C dX7_delivers_50 rfl ?_
    refine x_callV (mc' := 0) (ms' := 0) C dX7_delivers_51 (c_X7_addG hl hM (cn (n (142 + 5 * c + 3))) 4 load (by omega)) mf_X7_addG q4041 q4043 qs115 (Or.inl hM.1) rfl rfl rfl (Nat.le_of_ble_eq_true rfl) (by decide) rfl rfl (fun r h hP => ?_) (fun _ _ _ hX => False.elim hX)
    obtain ⟨rfl, hM⟩ := hP
    obtain ⟨n3, en3, hM⟩ := MW.nameN hM
    have hI_n3 : Ginv n3 S Gn Cn T := by rw [en3]; exact hI_n2.free _ (Or.inr (Or.inr ⟨_, 4, by omega, by decide, by decide, rfl⟩))
    refine x_aload_n C dX7_delivers_54 rfl ?_
    refine x_iload_n C dX7_delivers_55 rfl ?_
    refine x_aload_n C dX7_delivers_56 rfl ?_
    refine m_getN C dX7_delivers_57 fl_X7_7_6 hM ?_
    refine x_iconst C (nI 1) dX7_delivers_60 rfl ?_
    refine m_ldN C dX7_delivers_61 hM (j := 1) rfl (by omega) ?_
    refine x_imul C dX7_delivers_62 ?_
    refine x_callV (mc' := 0) (ms' := 0) C dX7_delivers_63 (c_X7_earns hl hM (load * (n3 1))) mf_X7_earns q4045 q4047 qs116 (Or.inl hM.1) rfl rfl rfl (Nat.le_of_ble_eq_true rfl) (by decide) rfl rfl (fun r h hP => ?_) (fun _ _ _ hX => False.elim hX)
    obtain ⟨rfl, hM⟩ := hP
    obtain ⟨n4, en4, hM⟩ := MW.nameN hM
    have hI_n4 : Ginv n4 S Gn Cn T := by rw [en4]; exact hI_n3.earn _
    have J96 : ∀ (nJ : Nat → Int32), nJ = sp_lates n4 c → ∀ h, MW m A F nJ B h0 h → xW G E 5 0 0 h 96 [(0, .ref m), (1, .int (nI c)), (2, .int load), (3, .int (nI (cn (n (142 + 5 * c + 2)))))] [] := by
      intro nJ e5 h hM
      refine x_aload_n C dX7_delivers_96 rfl ?_
      refine m_getN C dX7_delivers_97 fl_X7_7_6 hM ?_
      refine x_bipush C (nI 11) dX7_delivers_100 rfl ?_
      refine x_dup2 C dX7_delivers_102 rfl rfl ?_
      refine m_ldN C dX7_delivers_103 hM (j := 11) rfl (by omega) ?_
      refine x_iload_n C dX7_delivers_104 rfl ?_
      refine x_iadd C dX7_delivers_105 ?_
      refine m_stN C dX7_delivers_106 hM (j := 11) rfl (by omega) (fun h hM => ?_)
      obtain ⟨n5, en5, hM⟩ := MW.nameN hM
      have hI_n5 : Ginv n5 S Gn Cn T := by rw [en5]; exact (show Ginv nJ S Gn Cn T from by rw [e5]; exact hI_n4.lates c).free _ (Or.inl (by omega))
      refine x_aload_n C dX7_delivers_107 rfl ?_
      refine m_getN C dX7_delivers_108 fl_X7_7_6 hM ?_
      refine x_bipush C (nI 12) dX7_delivers_111 rfl ?_
      refine x_dup2 C dX7_delivers_113 rfl rfl ?_
      refine m_ldN C dX7_delivers_114 hM (j := 12) rfl (by omega) ?_
      refine x_iconst C (nI 1) dX7_delivers_115 rfl ?_
      refine x_iadd C dX7_delivers_116 ?_
      refine m_stN C dX7_delivers_117 hM (j := 12) rfl (by omega) (fun h hM => ?_)
      obtain ⟨n6, en6, hM⟩ := MW.nameN hM
      have hI_n6 : Ginv n6 S Gn Cn T := by rw [en6]; exact hI_n5.free _ (Or.inl (by omega))
      refine x_aload_n C dX7_delivers_118 rfl ?_
      refine x_iload_n C dX7_delivers_119 rfl ?_
      refine x_iload_n C dX7_delivers_120 rfl ?_
      refine x_aload_n C dX7_delivers_121 rfl ?_
      refine x_iload_n C dX7_delivers_122 rfl ?_
      refine x_callV (mc' := 0) (ms' := 0) C dX7_delivers_123 (c_X7_isLate hl hM hI_n6 c (by omega)) mf_X7_isLate q4049 q4051 qs117 (Or.inl hM.1) rfl rfl rfl (Nat.le_of_ble_eq_true rfl) (by decide) rfl rfl (fun r h hP => ?_) (fun _ _ _ hX => False.elim hX)
      obtain ⟨rfl, hM⟩ := hP
      refine x_callV (mc' := 0) (ms' := 0) C dX7_delivers_126 (c_X7_logs hl hM hI_n6 c load (bI (sp_late n6 c)) (by omega) (by first | exact Or.inl rfl | exact Or.inr rfl | exact bI_01 _)) mf_X7_logs q4053 q4055 qs118 (Or.inl hM.1) rfl rfl rfl (Nat.le_of_ble_eq_true rfl) (by decide) rfl rfl (fun r h hP => ?_) (fun _ _ _ hX => False.elim hX)
      obtain ⟨rfl, hM⟩ := hP
      obtain ⟨n7, en7, hM⟩ := MW.nameN hM
      have hI_n7 : Ginv n7 S Gn Cn T := by rw [en7]; exact hI_n6.log (by omega) hlb (lt_bI _)
      refine x_iconst C (nI 0) dX7_delivers_129 rfl ?_
      refine x_istore C dX7_delivers_130 (by decide) rfl ?_
      have L132 : ∀ (d : Nat) (k : Nat), S - k = d → k ≤ S → ∀ h, MW m A F (sp_smellN n7 (cn (n (142 + 5 * c + 2))) load k) B h0 h → xW G E 5 0 0 h 132 [(0, .ref m), (1, .int (nI c)), (2, .int load), (3, .int (nI (cn (n (142 + 5 * c + 2))))), (4, .int (nI k))] [] := by
        intro d
        induction d using Nat.strongRecOn with | _ d ih132 => ?_
        intro k hd132 hk h hM
        refine x_iload C dX7_delivers_132 rfl ?_
        refine x_aload_n C dX7_delivers_134 rfl ?_
        refine m_getN C dX7_delivers_135 fl_X7_7_6 hM ?_
        refine x_bipush C (nI 6) dX7_delivers_138 rfl ?_
        refine m_ldN C dX7_delivers_140 hM (j := 6) rfl (by omega) ?_
        refine x_toi (nI S) (hI_n7.smellN (cn (n (142 + 5 * c + 2))) load hk).s ?_
        refine x_icmp_ge C 170 dX7_delivers_141 (by decide) (fun c_141 => ?_) (fun c_141 => ?_)
        · skip
          have c_141 := (xn_geT k S c_141 (by omega) (by omega))
          exact x_ret B0 dX7_delivers_170 rfl (by obtain rfl : S = k := (by omega); subst en7; subst en6; subst en5; subst e5; subst en4; subst en3; subst en2; subst en1; rw [ed]; exact ⟨rfl, hM⟩)
        · skip
          have c_141 := (xn_geF k S c_141 (by omega) (by omega))
          refine x_aload_n C dX7_delivers_144 rfl ?_
          refine x_iload_n C dX7_delivers_145 rfl ?_
          refine x_iload_n C dX7_delivers_146 rfl ?_
          refine x_iload C dX7_delivers_147 rfl ?_
          refine x_callV (mc' := 0) (ms' := 0) C dX7_delivers_149 (c_X7_smells hl hM (hI_n7.smellN (cn (n (142 + 5 * c + 2))) load hk) (cn (n (142 + 5 * c + 2))) load k (by omega) (by omega)) mf_X7_smells q4057 q4059 qs119 (Or.inl hM.1) rfl rfl rfl (Nat.le_of_ble_eq_true rfl) (by decide) rfl rfl (fun r h hP => ?_) (fun _ _ _ hX => False.elim hX)
          obtain ⟨rfl, hM⟩ := hP
          by_cases hb_149 : sp_smells (sp_smellN n7 (cn (n (142 + 5 * c + 2))) load k) (cn (n (142 + 5 * c + 2))) load k = true
          · refine x_toi (nI 1) (bI_T hb_149) ?_
            refine x_if_eq C 164 dX7_delivers_152 (by decide) (fun c_152 => ?_) (fun c_152 => ?_)
            · exact absurd c_152 (by decide)
            · skip
              have c_152 := (xn_eqF 1 0 c_152 (by omega) (by omega))
              refine x_aload_n C dX7_delivers_155 rfl ?_
              refine x_iload C dX7_delivers_156 rfl ?_
              refine x_bipush C (nI 7) dX7_delivers_158 rfl ?_
              refine x_iconst C (nI 1) dX7_delivers_160 rfl ?_
              refine x_callV (mc' := 0) (ms' := 0) C dX7_delivers_161 (c_X7_addS hl hM k 7 (nI 1) (by omega)) mf_X7_addS q4029 q4031 qs112 (Or.inl hM.1) rfl rfl rfl (Nat.le_of_ble_eq_true rfl) (by decide) rfl rfl (fun r h hP => ?_) (fun _ _ _ hX => False.elim hX)
              obtain ⟨rfl, hM⟩ := hP
              obtain ⟨n8, en8, hM⟩ := MW.nameN hM
              have hI_n8 : Ginv n8 S Gn Cn T := by rw [en8]; exact (hI_n7.smellN (cn (n (142 + 5 * c + 2))) load hk).free _ (Or.inr (Or.inl ⟨k, 7, by omega, by decide, rfl⟩))
              refine x_iinc C (nI (k + 1)) dX7_delivers_164 rfl (nI_add _ 1) (by decide) rfl ?_
              refine x_goto C 132 dX7_delivers_167 (by decide) ?_
              refine x_locs2 [(0, .ref m), (1, .int (nI c)), (2, .int load), (3, .int (nI (cn (n (142 + 5 * c + 2))))), (4, .int (nI (k + 1)))] ⟨rfl, rfl, rfl, rfl, rfl, trivial⟩ ?_
              exact ih132 _ (by omega) (k + 1) rfl (by omega) h (by subst en8; show MW m A _ (sp_smell1 _ _ _ _) _ h0 h; unfold sp_smell1; first | (rw [if_pos hb_149]; exact hM) | (rw [if_neg hb_149]; exact hM))
          · refine x_toi (nI 0) (bI_Fn hb_149) ?_
            refine x_if_eq C 164 dX7_delivers_152 (by decide) (fun c_152 => ?_) (fun c_152 => ?_)
            · skip
              have c_152 := (xn_eqT 0 0 c_152 (by omega) (by omega))
              refine x_iinc C (nI (k + 1)) dX7_delivers_164 rfl (nI_add _ 1) (by decide) rfl ?_
              refine x_goto C 132 dX7_delivers_167 (by decide) ?_
              refine x_locs2 [(0, .ref m), (1, .int (nI c)), (2, .int load), (3, .int (nI (cn (n (142 + 5 * c + 2))))), (4, .int (nI (k + 1)))] ⟨rfl, rfl, rfl, rfl, rfl, trivial⟩ ?_
              exact ih132 _ (by omega) (k + 1) rfl (by omega) h (by show MW m A _ (sp_smell1 _ _ _ _) _ h0 h; unfold sp_smell1; first | (rw [if_pos hb_149]; exact hM) | (rw [if_neg hb_149]; exact hM))
            · exact absurd c_152 (by decide)
      refine x_locs2 [(0, .ref m), (1, .int (nI c)), (2, .int load), (3, .int (nI (cn (n (142 + 5 * c + 2))))), (4, .int (nI 0))] ⟨rfl, rfl, rfl, rfl, rfl, trivial⟩ ?_
      exact L132 _ 0 rfl (by omega) h (by subst en7; subst en6; subst en5; subst e5; subst en4; subst en3; subst en2; subst en1; exact hM)
    refine x_aload_n C dX7_delivers_66 rfl ?_
    refine x_iload_n C dX7_delivers_67 rfl ?_
    refine x_callV (mc' := 0) (ms' := 0) C dX7_delivers_68 (c_X7_isLate hl hM hI_n4 c (by omega)) mf_X7_isLate q4049 q4051 qs117 (Or.inl hM.1) rfl rfl rfl (Nat.le_of_ble_eq_true rfl) (by decide) rfl rfl (fun r h hP => ?_) (fun _ _ _ hX => False.elim hX)
    obtain ⟨rfl, hM⟩ := hP
    by_cases hb_68 : sp_late n4 c = true
    · refine x_toi (nI 1) (bI_T hb_68) ?_
      refine x_if_eq C 96 dX7_delivers_71 (by decide) (fun c_71 => ?_) (fun c_71 => ?_)
      · exact absurd c_71 (by decide)
      · skip
        have c_71 := (xn_eqF 1 0 c_71 (by omega) (by omega))
        refine x_aload_n C dX7_delivers_74 rfl ?_
        refine x_aload_n C dX7_delivers_75 rfl ?_
        refine m_getN C dX7_delivers_76 fl_X7_7_6 hM ?_
        refine x_iconst C (nI 2) dX7_delivers_79 rfl ?_
        refine m_ldN C dX7_delivers_80 hM (j := 2) rfl (by omega) ?_
        refine x_ineg C dX7_delivers_81 ?_
        refine x_callV (mc' := 0) (ms' := 0) C dX7_delivers_82 (c_X7_earns hl hM (-(n4 2))) mf_X7_earns q4045 q4047 qs116 (Or.inl hM.1) rfl rfl rfl (Nat.le_of_ble_eq_true rfl) (by decide) rfl rfl (fun r h hP => ?_) (fun _ _ _ hX => False.elim hX)
        obtain ⟨rfl, hM⟩ := hP
        obtain ⟨n9, en9, hM⟩ := MW.nameN hM
        have hI_n9 : Ginv n9 S Gn Cn T := by rw [en9]; exact hI_n4.earn _
        refine x_aload_n C dX7_delivers_85 rfl ?_
        refine m_getN C dX7_delivers_86 fl_X7_7_6 hM ?_
        refine x_bipush C (nI 13) dX7_delivers_89 rfl ?_
        refine x_dup2 C dX7_delivers_91 rfl rfl ?_
        refine m_ldN C dX7_delivers_92 hM (j := 13) rfl (by omega) ?_
        refine x_iconst C (nI 1) dX7_delivers_93 rfl ?_
        refine x_iadd C dX7_delivers_94 ?_
        refine m_stN C dX7_delivers_95 hM (j := 13) rfl (by omega) (fun h hM => ?_)
        obtain ⟨n10, en10, hM⟩ := MW.nameN hM
        have hI_n10 : Ginv n10 S Gn Cn T := by rw [en10]; exact hI_n9.free _ (Or.inl (by omega))
        refine x_locs2 [(0, .ref m), (1, .int (nI c)), (2, .int load), (3, .int (nI (cn (n (142 + 5 * c + 2)))))] ⟨rfl, rfl, rfl, rfl, trivial⟩ ?_
        exact J96 n10 (by subst en10; subst en9; subst en4; subst en3; subst en2; subst en1; exact (if_pos hb_68).symm) h (by exact hM)
    · refine x_toi (nI 0) (bI_Fn hb_68) ?_
      refine x_if_eq C 96 dX7_delivers_71 (by decide) (fun c_71 => ?_) (fun c_71 => ?_)
      · skip
        have c_71 := (xn_eqT 0 0 c_71 (by omega) (by omega))
        refine x_locs2 [(0, .ref m), (1, .int (nI c)), (2, .int load), (3, .int (nI (cn (n (142 + 5 * c + 2)))))] ⟨rfl, rfl, rfl, rfl, trivial⟩ ?_
        exact J96 n4 (by exact (if_neg hb_68).symm) h (by exact hM)
      · exact absurd c_71 (by decide)
  · skip
    exact x_ret B0 dX7_delivers_10 rfl (by unfold sp_deliver; rw [← eload, if_pos c_7]; exact ⟨rfl, hM⟩)
