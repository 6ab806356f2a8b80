/-! ===== the reference: keeps ===== -/
theorem c_X7_keeps {G : xG} {l : Launch} (hl : l.stackTraces = false) {m : Nat} {A : Nat → Nat} {F n : Nat → Int32} {B : Nat → Nat → Int32} {h0 h : xAH} (hM : MW m A F n B h0 h) (u : Nat) (hU : F 6 = nI u) (hu8 : u ≤ 8) : xM G l yX7_keeps cX7_keeps 2 (Option.none : Option Jvm.ClassFile.FieldType) [] 1 0 0 [.ref m] h (fun r h2 => r = none ∧ MW m A (sp_keepsF F u) n (sp_keepsB B n u) h0 h2) xNo := by
  refine xcode_start (by decide) (Nat.le_of_ble_eq_true rfl) hl ?_
  intro E hE B0
  subst hE
  have C := B0.1
  show xW G E 2 0 0 h 0 [(0, .ref m)] []
  have J50 : ∀ (u2 : Nat) (FJ : Nat → Int32) (BJ : Nat → Nat → Int32), (u2 = min u 7) → (FJ 6 = nI u2) → (∀ x, va_up FJ 6 x = va_up F 6 x) → (BJ = va_up B 3 (sp_pastK (B 3) u)) → ∀ h, MW m A FJ n BJ h0 h → xW G E 2 0 0 h 50 [(0, .ref m)] [] := by
    intro u2 FJ BJ hu2 hF6 hFJ eB h hM
    refine x_iconst C (nI 0) dX7_keeps_50 rfl ?_
    refine x_istore_n C dX7_keeps_51 (by decide) rfl ?_
    have L52 : ∀ (d : Nat) (k : Nat), 212 - k = d → (k ≤ 212) → ∀ h, MW m A FJ n (va_up BJ 3 (sp_cp (212 * u2) n (BJ 3) k)) h0 h → xW G E 2 0 0 h 52 [(0, .ref m), (1, .int (nI k))] [] := by
      intro d
      induction d using Nat.strongRecOn with | _ d ih52 => ?_
      intro k hd52 hk2 h hM
      refine x_iload_n C dX7_keeps_52 rfl ?_
      refine x_sipush C (nI 212) dX7_keeps_53 rfl ?_
      refine x_icmp_ge C 86 dX7_keeps_56 (by decide) (fun c_56 => ?_) (fun c_56 => ?_)
      · skip
        have c_56 := (xn_geT k 212 c_56 (by omega) (by omega))
        obtain rfl : 212 = k := (by omega)
        refine x_aload_n C dX7_keeps_86 rfl ?_
        refine x_dup C dX7_keeps_87 rfl ?_
        refine m_getI C dX7_keeps_88 fl_X7_282_6 hM rfl ?_
        refine x_toi (nI u2) (by exact (by exact hF6)) ?_
        refine x_iconst C (nI 1) dX7_keeps_91 rfl ?_
        refine x_iadd C dX7_keeps_92 ?_
        refine x_toi (nI (u2 + 1)) (nI_add _ _) ?_
        refine m_putI C dX7_keeps_93 fl_X7_282_6 hM rfl rfl ⟨rfl, rfl⟩ (fun h hM => ?_)
        obtain ⟨F1, eF1, hM⟩ := MW.nameF hM
        exact x_ret B0 dX7_keeps_96 rfl (by have q_ := eF1.symm; subst q_; refine ⟨rfl, ?_⟩; unfold sp_keepsF sp_keepsB; rw [← hu2, ← hFJ]; subst eB; rw [va_uu, va_eq] at hM; exact hM)
      · skip
        have c_56 := (xn_geF k 212 c_56 (by omega) (by omega))
        refine x_aload_n C dX7_keeps_59 rfl ?_
        refine m_getA C dX7_keeps_60 fl_X7_19_6 hM rfl ?_
        refine x_sipush C (nI 212) dX7_keeps_63 rfl ?_
        refine x_aload_n C dX7_keeps_66 rfl ?_
        refine m_getI C dX7_keeps_67 fl_X7_282_6 hM rfl ?_
        refine x_toi (nI u2) (by exact (by exact hF6)) ?_
        refine x_imul C dX7_keeps_70 ?_
        refine x_toi (nI (212 * u2)) (pk_mul _ _) ?_
        refine x_iload_n C dX7_keeps_71 rfl ?_
        refine x_iadd C dX7_keeps_72 ?_
        refine x_toi (nI ((212 * u2) + k)) (nI_add _ _) ?_
        refine x_aload_n C dX7_keeps_73 rfl ?_
        refine m_getN C dX7_keeps_74 fl_X7_7_6 hM ?_
        refine x_iload_n C dX7_keeps_77 rfl ?_
        refine m_ldN C dX7_keeps_78 hM (j := k) rfl (by omega) ?_
        refine m_st C dX7_keeps_79 hM rfl (j := (212 * u2) + k) rfl (show _ < 1696 from by omega) (fun h hM => ?_)
        obtain ⟨B2, eB2, hM⟩ := MW.nameB hM
        refine x_iinc C (nI (k + 1)) dX7_keeps_80 rfl (nI_add _ 1) (by decide) rfl ?_
        refine x_goto C 52 dX7_keeps_83 (by decide) ?_
        refine x_locs2 [(0, .ref m), (1, .int (nI (k + 1)))] ⟨rfl, rfl, trivial⟩ ?_
        exact ih52 _ (by omega) (k + 1) rfl (by omega) h (by have q_ := eB2.symm; subst q_; have e := cp_step BJ 3 n (BJ 3) (212 * u2) k 0; rw [← e]; exact hM)
    refine x_locs2 [(0, .ref m), (1, .int (nI 0))] ⟨rfl, rfl, trivial⟩ ?_
    exact L52 _ 0 rfl (by omega) h (by rw [cp_zero]; exact hM)
  refine x_aload_n C dX7_keeps_0 rfl ?_
  refine m_getI C dX7_keeps_1 fl_X7_282_6 hM rfl ?_
  refine x_toi (nI u) (by exact hU) ?_
  refine x_bipush C (nI 8) dX7_keeps_4 rfl ?_
  refine x_icmp_ne C 50 dX7_keeps_6 (by decide) (fun c_6 => ?_) (fun c_6 => ?_)
  · skip
    have c_6 := (xn_neT u 8 c_6 (by omega) (by omega))
    refine x_locs2 [(0, .ref m)] ⟨rfl, trivial⟩ ?_
    exact J50 u F B (by omega) hU (fun x => rfl) (by unfold sp_pastK; rw [if_neg c_6, va_id]) h (by exact hM)
  · skip
    have c_6 := (xn_neF u 8 c_6 (by omega) (by omega))
    refine x_iconst C (nI 0) dX7_keeps_9 rfl ?_
    refine x_istore_n C dX7_keeps_10 (by decide) rfl ?_
    have L11 : ∀ (d : Nat) (k : Nat), 1484 - k = d → (k ≤ 1484) → ∀ h, MW m A F n (va_up B 3 (sp_psh (B 3) k)) h0 h → xW G E 2 0 0 h 11 [(0, .ref m), (1, .int (nI k))] [] := by
      intro d
      induction d using Nat.strongRecOn with | _ d ih11 => ?_
      intro k hd11 hk h hM
      refine x_iload_n C dX7_keeps_11 rfl ?_
      refine x_sipush C (nI 1484) dX7_keeps_12 rfl ?_
      refine x_icmp_ge C 40 dX7_keeps_15 (by decide) (fun c_15 => ?_) (fun c_15 => ?_)
      · skip
        have c_15 := (xn_geT k 1484 c_15 (by omega) (by omega))
        obtain rfl : 1484 = k := (by omega)
        refine x_aload_n C dX7_keeps_40 rfl ?_
        refine x_dup C dX7_keeps_41 rfl ?_
        refine m_getI C dX7_keeps_42 fl_X7_282_6 hM rfl ?_
        refine x_toi (nI u) (by exact (by exact hU)) ?_
        refine x_iconst C (nI 1) dX7_keeps_45 rfl ?_
        refine x_isub C dX7_keeps_46 ?_
        refine x_toi (nI (u - 1)) (pk_sub (by omega)) ?_
        refine m_putI C dX7_keeps_47 fl_X7_282_6 hM rfl rfl ⟨rfl, rfl⟩ (fun h hM => ?_)
        obtain ⟨F3, eF3, hM⟩ := MW.nameF hM
        refine x_locs2 [(0, .ref m)] ⟨rfl, trivial⟩ ?_
        exact J50 7 F3 (va_up B 3 (sp_psh (B 3) 1484)) (by omega) (by rw [eF3, va_eq, c_6]) (fun x => by rw [eF3]; exact va_uu F 6 _ _) (by unfold sp_pastK; rw [if_pos c_6]) h (by exact hM)
      · skip
        have c_15 := (xn_geF k 1484 c_15 (by omega) (by omega))
        refine x_aload_n C dX7_keeps_18 rfl ?_
        refine m_getA C dX7_keeps_19 fl_X7_19_6 hM rfl ?_
        refine x_iload_n C dX7_keeps_22 rfl ?_
        refine x_aload_n C dX7_keeps_23 rfl ?_
        refine m_getA C dX7_keeps_24 fl_X7_19_6 hM rfl ?_
        refine x_iload_n C dX7_keeps_27 rfl ?_
        refine x_sipush C (nI 212) dX7_keeps_28 rfl ?_
        refine x_iadd C dX7_keeps_31 ?_
        refine x_toi (nI (k + 212)) (nI_add _ _) ?_
        refine m_ld C dX7_keeps_32 hM rfl (j := k + 212) rfl (show _ < 1696 from by omega) ?_
        refine m_st C dX7_keeps_33 hM rfl (j := k) rfl (show _ < 1696 from by omega) (fun h hM => ?_)
        obtain ⟨B4, eB4, hM⟩ := MW.nameB hM
        refine x_iinc C (nI (k + 1)) dX7_keeps_34 rfl (nI_add _ 1) (by decide) rfl ?_
        refine x_goto C 11 dX7_keeps_37 (by decide) ?_
        refine x_locs2 [(0, .ref m), (1, .int (nI (k + 1)))] ⟨rfl, rfl, trivial⟩ ?_
        exact ih11 _ (by omega) (k + 1) rfl (by omega) h (by have q_ := eB4.symm; subst q_; have e := psh_step B 3 (B 3) k; rw [← e]; exact hM)
    refine x_locs2 [(0, .ref m), (1, .int (nI 0))] ⟨rfl, rfl, trivial⟩ ?_
    exact L11 _ 0 rfl (by omega) h (by rw [sp_psh_0, va_id]; exact hM)
