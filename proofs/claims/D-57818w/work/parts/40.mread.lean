/-! ===== the reference: the reader ===== -/
theorem c_X7_seen {G : xG} {l : Launch} (hl : l.stackTraces = false) {m : Nat} {A : Nat → Nat} {F n : Nat → Int32} {B : Nat → Nat → Int32} {h0 h : xAH} (hM : MW m A F n B h0 h) (k N : Nat) (hk : k < 2 ^ 30) (hN : F 10 = nI N) (hN7 : N ≤ 700) : xM G l yX7_seen cX7_seen 2 (Option.some Jvm.ClassFile.FieldType.int) [] 1 0 0 [.ref m, .int (nI k)] h (fun r h2 => r = some (.int (sn (B 9) N k)) ∧ MW m A F n B h0 h2) xNo := by
  refine xcode_start (by decide) (Nat.le_of_ble_eq_true rfl) hl ?_
  intro E hE B0
  subst hE
  have C := B0.1
  show xW G E 2 0 0 h 0 [(0, .ref m), (1, .int (nI k))] []
  refine x_iload_n C dX7_seen_0 rfl ?_
  refine x_aload_n C dX7_seen_1 rfl ?_
  refine m_getI C dX7_seen_2 fl_X7_76_6 hM rfl ?_
  refine x_toi (nI N) (by exact hN) ?_
  refine x_icmp_ge C 17 dX7_seen_5 (by decide) (fun c_5 => ?_) (fun c_5 => ?_)
  · skip
    have c_5 := (xn_geT k N c_5 (by omega) (by omega))
    refine x_iconst C (-1) dX7_seen_17 rfl ?_
    exact x_iret B0 dX7_seen_18 rfl (⟨by unfold sn; first | (rw [if_pos c_5]; done) | (rw [if_neg (Nat.not_lt.mpr c_5)]; done), hM⟩)
  · skip
    have c_5 := (xn_geF k N c_5 (by omega) (by omega))
    refine x_aload_n C dX7_seen_8 rfl ?_
    refine m_getA C dX7_seen_9 fl_X7_33_6 hM rfl ?_
    refine x_iload_n C dX7_seen_12 rfl ?_
    refine m_ld C dX7_seen_13 hM rfl (j := k) rfl (show _ < 700 from by omega) ?_
    refine x_goto C 18 dX7_seen_14 (by decide) ?_
    exact x_iret B0 dX7_seen_18 rfl (⟨by unfold sn; first | (rw [if_pos c_5]; done) | (rw [if_neg (Nat.not_lt.mpr c_5)]; done), hM⟩)
theorem c_X7_reads {G : xG} {l : Launch} (hl : l.stackTraces = false) {m : Nat} {A : Nat → Nat} {F n : Nat → Int32} {B : Nat → Nat → Int32} {h0 h : xAH} (hM : MW m A F n B h0 h) (N s0 s1 : Nat) (hN : F 10 = nI N) (hN7 : N ≤ 700) (hs : F 13 = nI s0) (hs0 : s0 ≤ N) (hs1 : tk1 (B 9) N s0 = s1) : xM G l yX7_reads cX7_reads 2 (Option.none : Option Jvm.ClassFile.FieldType) [] 2 0 0 [.ref m] h (fun r h2 => r = none ∧ MW m A (sp_readsF (B 9) F N s1) n B h0 h2) xNo := by
  refine xcode_start (by decide) (Nat.le_of_ble_eq_true rfl) hl ?_
  intro E hE B0
  subst hE
  have C := B0.1
  have hw1 := (ws_le (B 9) (N - s0) s0).2; have hs1N : s1 ≤ N := by unfold tk1 at hs1; omega
  show xW G E 2 0 0 h 0 [(0, .ref m)] []
  have L0 : ∀ (d : Nat) (s : Nat), N - s = d → s ≤ N → ws (B 9) (N - s) s = s1 → ∀ h, MW m A (va_up F 13 (nI s)) n B h0 h → xW G E 2 0 0 h 0 [(0, .ref m)] [] := by
    intro d
    induction d using Nat.strongRecOn with | _ d ih0 => ?_
    intro s hd0 hsN hw h hM
    refine x_aload_n C dX7_reads_0 rfl ?_
    refine x_aload_n C dX7_reads_1 rfl ?_
    refine m_getI C dX7_reads_2 fl_X7_183_6 hM rfl ?_
    refine x_toi (nI s) (by exact rfl) ?_
    refine x_callV (mc' := 0) (ms' := 0) C dX7_reads_5 (c_X7_seen hl hM s N (by omega) (by exact hN) hN7) mf_X7_seen q3692 q3694 qs64 (Or.inl hM.1) rfl rfl rfl (Nat.le_of_ble_eq_true rfl) (by decide) rfl rfl (fun r h hP => ?_) (fun _ _ _ hX => False.elim hX)
    obtain ⟨rfl, hM⟩ := hP
    refine x_bipush C (nI 32) dX7_reads_8 rfl ?_
    refine x_icmp_eq C 26 dX7_reads_10 (by decide) (fun c_10 => ?_) (fun c_10 => ?_)
    · skip
      have hgo := ws_go (b := B 9) (N := N) (s := s) (by first | exact Or.inl c_10 | exact Or.inr c_23)
      refine x_aload_n C dX7_reads_26 rfl ?_
      refine x_dup C dX7_reads_27 rfl ?_
      refine m_getI C dX7_reads_28 fl_X7_183_6 hM rfl ?_
      refine x_toi (nI s) (by exact rfl) ?_
      refine x_iconst C (nI 1) dX7_reads_31 rfl ?_
      refine x_iadd C dX7_reads_32 ?_
      refine x_toi (nI (s + 1)) (nI_add _ _) ?_
      refine m_putI C dX7_reads_33 fl_X7_183_6 hM rfl rfl ⟨rfl, rfl⟩ (fun h hM => ?_)
      obtain ⟨F1, eF1, hM⟩ := MW.nameF hM
      refine x_goto C 0 dX7_reads_36 (by decide) ?_
      refine x_locs2 [(0, .ref m)] ⟨rfl, trivial⟩ ?_
      exact ih0 _ (by omega) (s + 1) rfl (by omega) (by rw [← hw]; exact hgo.2.symm) h (by subst eF1; rw [← va_uu F 13 (nI s)]; exact hM)
    · skip
      refine x_aload_n C dX7_reads_13 rfl ?_
      refine x_aload_n C dX7_reads_14 rfl ?_
      refine m_getI C dX7_reads_15 fl_X7_183_6 hM rfl ?_
      refine x_toi (nI s) (by exact rfl) ?_
      refine x_callV (mc' := 0) (ms' := 0) C dX7_reads_18 (c_X7_seen hl hM s N (by omega) (by exact hN) hN7) mf_X7_seen q3692 q3694 qs64 (Or.inl hM.1) rfl rfl rfl (Nat.le_of_ble_eq_true rfl) (by decide) rfl rfl (fun r h hP => ?_) (fun _ _ _ hX => False.elim hX)
      obtain ⟨rfl, hM⟩ := hP
      refine x_bipush C (nI 10) dX7_reads_21 rfl ?_
      refine x_icmp_ne C 39 dX7_reads_23 (by decide) (fun c_23 => ?_) (fun c_23 => ?_)
      · skip
        obtain rfl : s1 = s := by rw [← hw]; exact ws_stop c_10 c_23
        refine x_aload_n C dX7_reads_39 rfl ?_
        refine x_aload_n C dX7_reads_40 rfl ?_
        refine m_getI C dX7_reads_41 fl_X7_183_6 hM rfl ?_
        refine x_toi (nI s1) (by exact rfl) ?_
        refine m_putI C dX7_reads_44 fl_X7_189_6 hM rfl rfl ⟨rfl, rfl⟩ (fun h hM => ?_)
        obtain ⟨F2, eF2, hM⟩ := MW.nameF hM
        refine x_aload_n C dX7_reads_47 rfl ?_
        refine x_aload_n C dX7_reads_48 rfl ?_
        refine m_getI C dX7_reads_49 fl_X7_183_6 hM rfl ?_
        refine x_toi (nI s1) (by subst eF2; exact rfl) ?_
        refine x_callV (mc' := 0) (ms' := 0) C dX7_reads_52 (c_X7_seen hl hM s1 N (by omega) (by subst eF2; exact hN) hN7) mf_X7_seen q3692 q3694 qs64 (Or.inl hM.1) rfl rfl rfl (Nat.le_of_ble_eq_true rfl) (by decide) rfl rfl (fun r h hP => ?_) (fun _ _ _ hX => False.elim hX)
        obtain ⟨rfl, hM⟩ := hP
        refine x_istore_n C dX7_reads_55 (by decide) rfl ?_
        refine x_iload_n C dX7_reads_56 rfl ?_
        refine x_iconst C (-1) dX7_reads_57 rfl ?_
        refine x_icmp_ne C 69 dX7_reads_58 (by decide) (fun c_58 => ?_) (fun c_58 => ?_)
        · skip
          refine x_iload_n C dX7_reads_69 rfl ?_
          refine x_bipush C (nI 97) dX7_reads_70 rfl ?_
          refine x_bipush C (nI 122) dX7_reads_72 rfl ?_
          refine x_callS (mc' := 0) (ms' := 0) C dX7_reads_74 (c_X7_in hl hM (sn (B 9) N s1) (nI 97) (nI 122)) mf_X7_in q3696 q3697 rfl rfl (Nat.le_of_ble_eq_true rfl) (by decide) rfl rfl (fun r h hP => ?_) (fun _ _ _ hX => False.elim hX)
          obtain ⟨rfl, hM⟩ := hP
          by_cases hb_74 : (nI 97) ≤ (sn (B 9) N s1) ∧ (sn (B 9) N s1) ≤ (nI 122)
          · refine x_toi (nI 1) (bI_t hb_74) ?_
            refine x_if_eq C 116 dX7_reads_77 (by decide) (fun c_77 => ?_) (fun c_77 => ?_)
            · exact absurd c_77 (by decide)
            · skip
              have c_77 := (xn_eqF 1 0 c_77 (by omega) (by omega))
              refine x_aload_n C dX7_reads_80 rfl ?_
              refine x_iconst C (nI 1) dX7_reads_81 rfl ?_
              refine m_putI C dX7_reads_82 fl_X7_192_6 hM rfl rfl ⟨rfl, rfl⟩ (fun h hM => ?_)
              obtain ⟨F3, eF3, hM⟩ := MW.nameF hM
              have L85 : ∀ (d : Nat) (s : Nat), N - s = d → s ≤ N → wd (B 9) (N - s) s = wd (B 9) (N - s1) s1 → ∀ h, MW m A (va_up (va_up (va_up (va_up F 13 (nI s1)) 14 (nI s1)) 15 (nI 1)) 13 (nI s)) n B h0 h → xW G E 2 0 0 h 85 [(0, .ref m), (1, .int (sn (B 9) N s1))] [] := by
                intro d
                induction d using Nat.strongRecOn with | _ d ih85 => ?_
                intro s hd85 hsN hw h hM
                refine x_aload_n C dX7_reads_85 rfl ?_
                refine x_aload_n C dX7_reads_86 rfl ?_
                refine m_getI C dX7_reads_87 fl_X7_183_6 hM rfl ?_
                refine x_toi (nI s) (by exact rfl) ?_
                refine x_callV (mc' := 0) (ms' := 0) C dX7_reads_90 (c_X7_seen hl hM s N (by omega) (by exact hN) hN7) mf_X7_seen q3692 q3694 qs64 (Or.inl hM.1) rfl rfl rfl (Nat.le_of_ble_eq_true rfl) (by decide) rfl rfl (fun r h hP => ?_) (fun _ _ _ hX => False.elim hX)
                obtain ⟨rfl, hM⟩ := hP
                refine x_bipush C (nI 97) dX7_reads_93 rfl ?_
                refine x_bipush C (nI 122) dX7_reads_95 rfl ?_
                refine x_callS (mc' := 0) (ms' := 0) C dX7_reads_97 (c_X7_in hl hM (sn (B 9) N s) (nI 97) (nI 122)) mf_X7_in q3696 q3697 rfl rfl (Nat.le_of_ble_eq_true rfl) (by decide) rfl rfl (fun r h hP => ?_) (fun _ _ _ hX => False.elim hX)
                obtain ⟨rfl, hM⟩ := hP
                by_cases hb_97 : (nI 97) ≤ (sn (B 9) N s) ∧ (sn (B 9) N s) ≤ (nI 122)
                · refine x_toi (nI 1) (bI_t hb_97) ?_
                  refine x_if_eq C 234 dX7_reads_100 (by decide) (fun c_100 => ?_) (fun c_100 => ?_)
                  · exact absurd c_100 (by decide)
                  · skip
                    have c_100 := (xn_eqF 1 0 c_100 (by omega) (by omega))
                    have hgo := wd_go (b := B 9) (N := N) (s := s) hb_97
                    refine x_aload_n C dX7_reads_103 rfl ?_
                    refine x_dup C dX7_reads_104 rfl ?_
                    refine m_getI C dX7_reads_105 fl_X7_183_6 hM rfl ?_
                    refine x_toi (nI s) (by exact rfl) ?_
                    refine x_iconst C (nI 1) dX7_reads_108 rfl ?_
                    refine x_iadd C dX7_reads_109 ?_
                    refine x_toi (nI (s + 1)) (nI_add _ _) ?_
                    refine m_putI C dX7_reads_110 fl_X7_183_6 hM rfl rfl ⟨rfl, rfl⟩ (fun h hM => ?_)
                    obtain ⟨F4, eF4, hM⟩ := MW.nameF hM
                    refine x_goto C 85 dX7_reads_113 (by decide) ?_
                    refine x_locs2 [(0, .ref m), (1, .int (sn (B 9) N s1))] ⟨rfl, rfl, trivial⟩ ?_
                    exact ih85 _ (by omega) (s + 1) rfl (by omega) (by rw [← hw]; exact hgo.2.symm) h (by subst eF4; rw [← va_uu (va_up (va_up (va_up F 13 (nI s1)) 14 (nI s1)) 15 (nI 1)) 13 (nI s)]; exact hM)
                · refine x_toi (nI 0) (bI_f hb_97) ?_
                  refine x_if_eq C 234 dX7_reads_100 (by decide) (fun c_100 => ?_) (fun c_100 => ?_)
                  · skip
                    have c_100 := (xn_eqT 0 0 c_100 (by omega) (by omega))
                    exact x_ret B0 dX7_reads_234 rfl (by first | (rw [sp_readsF_e c_58]; exact ⟨rfl, hM⟩) | (rw [sp_readsF_w c_58 hb_74, ← hw, wd_stop hb_97]; exact ⟨rfl, hM⟩) | (rw [sp_readsF_d c_58 hb_74 hb_121, ← hw, dg_stop hb_149]; exact ⟨rfl, hM⟩) | (subst ex; rw [sp_readsF_s c_58 hb_74 hb_121]; exact ⟨rfl, hM⟩))
                  · exact absurd c_100 (by decide)
              refine x_locs2 [(0, .ref m), (1, .int (sn (B 9) N s1))] ⟨rfl, rfl, trivial⟩ ?_
              exact L85 _ s1 rfl hs1N rfl h (by subst eF3; subst eF2; rw [va_3]; exact hM)
          · refine x_toi (nI 0) (bI_f hb_74) ?_
            refine x_if_eq C 116 dX7_reads_77 (by decide) (fun c_77 => ?_) (fun c_77 => ?_)
            · skip
              have c_77 := (xn_eqT 0 0 c_77 (by omega) (by omega))
              refine x_iload_n C dX7_reads_116 rfl ?_
              refine x_bipush C (nI 48) dX7_reads_117 rfl ?_
              refine x_bipush C (nI 57) dX7_reads_119 rfl ?_
              refine x_callS (mc' := 0) (ms' := 0) C dX7_reads_121 (c_X7_in hl hM (sn (B 9) N s1) (nI 48) (nI 57)) mf_X7_in q3696 q3697 rfl rfl (Nat.le_of_ble_eq_true rfl) (by decide) rfl rfl (fun r h hP => ?_) (fun _ _ _ hX => False.elim hX)
              obtain ⟨rfl, hM⟩ := hP
              by_cases hb_121 : (nI 48) ≤ (sn (B 9) N s1) ∧ (sn (B 9) N s1) ≤ (nI 57)
              · refine x_toi (nI 1) (bI_t hb_121) ?_
                refine x_if_eq C 197 dX7_reads_124 (by decide) (fun c_124 => ?_) (fun c_124 => ?_)
                · exact absurd c_124 (by decide)
                · skip
                  have c_124 := (xn_eqF 1 0 c_124 (by omega) (by omega))
                  refine x_aload_n C dX7_reads_127 rfl ?_
                  refine x_iconst C (nI 2) dX7_reads_128 rfl ?_
                  refine m_putI C dX7_reads_129 fl_X7_192_6 hM rfl rfl ⟨rfl, rfl⟩ (fun h hM => ?_)
                  obtain ⟨F5, eF5, hM⟩ := MW.nameF hM
                  refine x_aload_n C dX7_reads_132 rfl ?_
                  refine x_iconst C (nI 0) dX7_reads_133 rfl ?_
                  refine m_putI C dX7_reads_134 fl_X7_195_6 hM rfl rfl ⟨rfl, rfl⟩ (fun h hM => ?_)
                  obtain ⟨F6, eF6, hM⟩ := MW.nameF hM
                  have L137 : ∀ (d : Nat) (s : Nat) (v : Int32), N - s = d → s ≤ N → dg (B 9) (N - s) s v = dg (B 9) (N - s1) s1 (nI 0) → ∀ h, MW m A (va_up (va_up (va_up (va_up (va_up F 13 (nI s1)) 14 (nI s1)) 15 (nI 2)) 16 v) 13 (nI s)) n B h0 h → xW G E 2 0 0 h 137 [(0, .ref m), (1, .int (sn (B 9) N s1))] [] := by
                    intro d
                    induction d using Nat.strongRecOn with | _ d ih137 => ?_
                    intro s v hd137 hsN hw h hM
                    refine x_aload_n C dX7_reads_137 rfl ?_
                    refine x_aload_n C dX7_reads_138 rfl ?_
                    refine m_getI C dX7_reads_139 fl_X7_183_6 hM rfl ?_
                    refine x_toi (nI s) (by exact rfl) ?_
                    refine x_callV (mc' := 0) (ms' := 0) C dX7_reads_142 (c_X7_seen hl hM s N (by omega) (by exact hN) hN7) mf_X7_seen q3692 q3694 qs64 (Or.inl hM.1) rfl rfl rfl (Nat.le_of_ble_eq_true rfl) (by decide) rfl rfl (fun r h hP => ?_) (fun _ _ _ hX => False.elim hX)
                    obtain ⟨rfl, hM⟩ := hP
                    refine x_bipush C (nI 48) dX7_reads_145 rfl ?_
                    refine x_bipush C (nI 57) dX7_reads_147 rfl ?_
                    refine x_callS (mc' := 0) (ms' := 0) C dX7_reads_149 (c_X7_in hl hM (sn (B 9) N s) (nI 48) (nI 57)) mf_X7_in q3696 q3697 rfl rfl (Nat.le_of_ble_eq_true rfl) (by decide) rfl rfl (fun r h hP => ?_) (fun _ _ _ hX => False.elim hX)
                    obtain ⟨rfl, hM⟩ := hP
                    by_cases hb_149 : (nI 48) ≤ (sn (B 9) N s) ∧ (sn (B 9) N s) ≤ (nI 57)
                    · refine x_toi (nI 1) (bI_t hb_149) ?_
                      refine x_if_eq C 234 dX7_reads_152 (by decide) (fun c_152 => ?_) (fun c_152 => ?_)
                      · exact absurd c_152 (by decide)
                      · skip
                        have c_152 := (xn_eqF 1 0 c_152 (by omega) (by omega))
                        have hgo := dg_go (b := B 9) (N := N) (s := s) (v := v) hb_149
                        refine x_aload_n C dX7_reads_155 rfl ?_
                        refine x_sipush C (nI 1000) dX7_reads_156 rfl ?_
                        refine x_bipush C (nI 10) dX7_reads_159 rfl ?_
                        refine x_aload_n C dX7_reads_161 rfl ?_
                        refine m_getI C dX7_reads_162 fl_X7_195_6 hM rfl ?_
                        refine x_toi v (by exact rfl) ?_
                        refine x_imul C dX7_reads_165 ?_
                        refine x_aload_n C dX7_reads_166 rfl ?_
                        refine x_aload_n C dX7_reads_167 rfl ?_
                        refine m_getI C dX7_reads_168 fl_X7_183_6 hM rfl ?_
                        refine x_toi (nI s) (by exact rfl) ?_
                        refine x_callV (mc' := 0) (ms' := 0) C dX7_reads_171 (c_X7_seen hl hM s N (by omega) (by exact hN) hN7) mf_X7_seen q3692 q3694 qs64 (Or.inl hM.1) rfl rfl rfl (Nat.le_of_ble_eq_true rfl) (by decide) rfl rfl (fun r h hP => ?_) (fun _ _ _ hX => False.elim hX)
                        obtain ⟨rfl, hM⟩ := hP
                        refine x_iadd C dX7_reads_174 ?_
                        refine x_bipush C (nI 48) dX7_reads_175 rfl ?_
                        refine x_isub C dX7_reads_177 ?_
                        refine x_min C dX7_reads_178 q3699 q437 q155 q438 (by decide) (Nat.le_of_ble_eq_true rfl) ?_
                        refine m_putI C dX7_reads_181 fl_X7_195_6 hM rfl rfl ⟨rfl, rfl⟩ (fun h hM => ?_)
                        obtain ⟨F7, eF7, hM⟩ := MW.nameF hM
                        refine x_aload_n C dX7_reads_184 rfl ?_
                        refine x_dup C dX7_reads_185 rfl ?_
                        refine m_getI C dX7_reads_186 fl_X7_183_6 hM rfl ?_
                        refine x_toi (nI s) (by subst eF7; exact rfl) ?_
                        refine x_iconst C (nI 1) dX7_reads_189 rfl ?_
                        refine x_iadd C dX7_reads_190 ?_
                        refine x_toi (nI (s + 1)) (nI_add _ _) ?_
                        refine m_putI C dX7_reads_191 fl_X7_183_6 hM rfl rfl ⟨rfl, rfl⟩ (fun h hM => ?_)
                        obtain ⟨F8, eF8, hM⟩ := MW.nameF hM
                        refine x_goto C 137 dX7_reads_194 (by decide) ?_
                        refine x_locs2 [(0, .ref m), (1, .int (sn (B 9) N s1))] ⟨rfl, rfl, trivial⟩ ?_
                        exact ih137 _ (by omega) (s + 1) (imin (nI 1000) (nI 10 * v + sn (B 9) N s - nI 48)) rfl (by omega) (by rw [← hw]; exact hgo.2.symm) h (by subst eF8; subst eF7; have e := va_2 (va_up (va_up (va_up F 13 (nI s1)) 14 (nI s1)) 15 (nI 2)) (i := 16) (j := 13) v (nI s) (imin (nI 1000) (nI 10 * v + sn (B 9) N s - nI 48)) (nI (s + 1)) (by decide); rw [← e]; exact hM)
                    · refine x_toi (nI 0) (bI_f hb_149) ?_
                      refine x_if_eq C 234 dX7_reads_152 (by decide) (fun c_152 => ?_) (fun c_152 => ?_)
                      · skip
                        have c_152 := (xn_eqT 0 0 c_152 (by omega) (by omega))
                        exact x_ret B0 dX7_reads_234 rfl (by first | (rw [sp_readsF_e c_58]; exact ⟨rfl, hM⟩) | (rw [sp_readsF_w c_58 hb_74, ← hw, wd_stop hb_97]; exact ⟨rfl, hM⟩) | (rw [sp_readsF_d c_58 hb_74 hb_121, ← hw, dg_stop hb_149]; exact ⟨rfl, hM⟩) | (subst ex; rw [sp_readsF_s c_58 hb_74 hb_121]; exact ⟨rfl, hM⟩))
                      · exact absurd c_152 (by decide)
                  refine x_locs2 [(0, .ref m), (1, .int (sn (B 9) N s1))] ⟨rfl, rfl, trivial⟩ ?_
                  exact L137 _ s1 (nI 0) rfl hs1N rfl h (by subst eF6; subst eF5; subst eF2; rw [va_4]; exact hM)
              · refine x_toi (nI 0) (bI_f hb_121) ?_
                refine x_if_eq C 197 dX7_reads_124 (by decide) (fun c_124 => ?_) (fun c_124 => ?_)
                · skip
                  have c_124 := (xn_eqT 0 0 c_124 (by omega) (by omega))
                  have J221 : ∀ (x : Int32), x = sgn (sn (B 9) N s1) → ∀ h, MW m A F2 n B h0 h → xW G E 2 0 0 h 221 [(0, .ref m), (1, .int (sn (B 9) N s1))] [.int x, .ref m] := by
                    intro x ex h hM
                    refine m_putI C dX7_reads_221 fl_X7_192_6 hM rfl rfl ⟨rfl, rfl⟩ (fun h hM => ?_)
                    obtain ⟨F9, eF9, hM⟩ := MW.nameF hM
                    refine x_aload_n C dX7_reads_224 rfl ?_
                    refine x_dup C dX7_reads_225 rfl ?_
                    refine m_getI C dX7_reads_226 fl_X7_183_6 hM rfl ?_
                    refine x_toi (nI s1) (by subst eF9; subst eF2; exact rfl) ?_
                    refine x_iconst C (nI 1) dX7_reads_229 rfl ?_
                    refine x_iadd C dX7_reads_230 ?_
                    refine x_toi (nI (s1 + 1)) (nI_add _ _) ?_
                    refine m_putI C dX7_reads_231 fl_X7_183_6 hM rfl rfl ⟨rfl, rfl⟩ (fun h hM => ?_)
                    obtain ⟨F10, eF10, hM⟩ := MW.nameF hM
                    exact x_ret B0 dX7_reads_234 rfl (by subst eF10; subst eF9; subst eF2; first | (rw [sp_readsF_e c_58]; exact ⟨rfl, hM⟩) | (rw [sp_readsF_w c_58 hb_74, ← hw, wd_stop hb_97]; exact ⟨rfl, hM⟩) | (rw [sp_readsF_d c_58 hb_74 hb_121, ← hw, dg_stop hb_149]; exact ⟨rfl, hM⟩) | (subst ex; rw [sp_readsF_s c_58 hb_74 hb_121]; exact ⟨rfl, hM⟩))
                  refine x_aload_n C dX7_reads_197 rfl ?_
                  refine x_iload_n C dX7_reads_198 rfl ?_
                  refine x_bipush C (nI 59) dX7_reads_199 rfl ?_
                  refine x_icmp_eq C 216 dX7_reads_201 (by decide) (fun c_201 => ?_) (fun c_201 => ?_)
                  · skip
                    refine x_iconst C (nI 3) dX7_reads_216 rfl ?_
                    refine x_goto C 221 dX7_reads_217 (by decide) ?_
                    refine x_locs2 [(0, .ref m), (1, .int (sn (B 9) N s1))] ⟨rfl, rfl, trivial⟩ ?_
                    exact J221 (nI 3) (by unfold sgn; first | exact (if_pos (Or.inl c_201)).symm | exact (if_pos (Or.inr (Or.inl c_207))).symm | exact (if_pos (Or.inr (Or.inr c_213))).symm | exact (if_neg (fun q => q.elim c_201 (fun q => q.elim c_207 c_213))).symm) h (by exact hM)
                  · skip
                    refine x_iload_n C dX7_reads_204 rfl ?_
                    refine x_bipush C (nI 40) dX7_reads_205 rfl ?_
                    refine x_icmp_eq C 216 dX7_reads_207 (by decide) (fun c_207 => ?_) (fun c_207 => ?_)
                    · skip
                      refine x_iconst C (nI 3) dX7_reads_216 rfl ?_
                      refine x_goto C 221 dX7_reads_217 (by decide) ?_
                      refine x_locs2 [(0, .ref m), (1, .int (sn (B 9) N s1))] ⟨rfl, rfl, trivial⟩ ?_
                      exact J221 (nI 3) (by unfold sgn; first | exact (if_pos (Or.inl c_201)).symm | exact (if_pos (Or.inr (Or.inl c_207))).symm | exact (if_pos (Or.inr (Or.inr c_213))).symm | exact (if_neg (fun q => q.elim c_201 (fun q => q.elim c_207 c_213))).symm) h (by exact hM)
                    · skip
                      refine x_iload_n C dX7_reads_210 rfl ?_
                      refine x_bipush C (nI 41) dX7_reads_211 rfl ?_
                      refine x_icmp_ne C 220 dX7_reads_213 (by decide) (fun c_213 => ?_) (fun c_213 => ?_)
                      · skip
                        refine x_iconst C (nI 4) dX7_reads_220 rfl ?_
                        refine x_locs2 [(0, .ref m), (1, .int (sn (B 9) N s1))] ⟨rfl, rfl, trivial⟩ ?_
                        exact J221 (nI 4) (by unfold sgn; first | exact (if_pos (Or.inl c_201)).symm | exact (if_pos (Or.inr (Or.inl c_207))).symm | exact (if_pos (Or.inr (Or.inr c_213))).symm | exact (if_neg (fun q => q.elim c_201 (fun q => q.elim c_207 c_213))).symm) h (by exact hM)
                      · skip
                        refine x_iconst C (nI 3) dX7_reads_216 rfl ?_
                        refine x_goto C 221 dX7_reads_217 (by decide) ?_
                        refine x_locs2 [(0, .ref m), (1, .int (sn (B 9) N s1))] ⟨rfl, rfl, trivial⟩ ?_
                        exact J221 (nI 3) (by unfold sgn; first | exact (if_pos (Or.inl c_201)).symm | exact (if_pos (Or.inr (Or.inl c_207))).symm | exact (if_pos (Or.inr (Or.inr c_213))).symm | exact (if_neg (fun q => q.elim c_201 (fun q => q.elim c_207 c_213))).symm) h (by exact hM)
                · exact absurd c_124 (by decide)
            · exact absurd c_77 (by decide)
        · skip
          refine x_aload_n C dX7_reads_61 rfl ?_
          refine x_iconst C (nI 0) dX7_reads_62 rfl ?_
          refine m_putI C dX7_reads_63 fl_X7_192_6 hM rfl rfl ⟨rfl, rfl⟩ (fun h hM => ?_)
          obtain ⟨F11, eF11, hM⟩ := MW.nameF hM
          refine x_goto C 234 dX7_reads_66 (by decide) ?_
          exact x_ret B0 dX7_reads_234 rfl (by subst eF11; subst eF2; first | (rw [sp_readsF_e c_58]; exact ⟨rfl, hM⟩) | (rw [sp_readsF_w c_58 hb_74, ← hw, wd_stop hb_97]; exact ⟨rfl, hM⟩) | (rw [sp_readsF_d c_58 hb_74 hb_121, ← hw, dg_stop hb_149]; exact ⟨rfl, hM⟩) | (subst ex; rw [sp_readsF_s c_58 hb_74 hb_121]; exact ⟨rfl, hM⟩))
      · skip
        have hgo := ws_go (b := B 9) (N := N) (s := s) (by first | exact Or.inl c_10 | exact Or.inr c_23)
        refine x_aload_n C dX7_reads_26 rfl ?_
        refine x_dup C dX7_reads_27 rfl ?_
        refine m_getI C dX7_reads_28 fl_X7_183_6 hM rfl ?_
        refine x_toi (nI s) (by exact rfl) ?_
        refine x_iconst C (nI 1) dX7_reads_31 rfl ?_
        refine x_iadd C dX7_reads_32 ?_
        refine x_toi (nI (s + 1)) (nI_add _ _) ?_
        refine m_putI C dX7_reads_33 fl_X7_183_6 hM rfl rfl ⟨rfl, rfl⟩ (fun h hM => ?_)
        obtain ⟨F12, eF12, hM⟩ := MW.nameF hM
        refine x_goto C 0 dX7_reads_36 (by decide) ?_
        refine x_locs2 [(0, .ref m)] ⟨rfl, trivial⟩ ?_
        exact ih0 _ (by omega) (s + 1) rfl (by omega) (by rw [← hw]; exact hgo.2.symm) h (by subst eF12; rw [← va_uu F 13 (nI s)]; exact hM)
  refine x_locs2 [(0, .ref m)] ⟨rfl, trivial⟩ ?_
  exact L0 _ s0 rfl hs0 hs1 h (by rw [← hs, va_id]; exact hM)
