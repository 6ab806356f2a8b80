/-! ===== the reference: words ===== -/
theorem c_X7_isWord {G : xG} {l : Launch} (hl : l.stackTraces = false) {m : Nat} {A : Nat → Nat} {F n : Nat → Int32} {B : Nat → Nat → Int32} {h0 h : xAH} (hM : MW m A F n B h0 h) (hP : Pok F) (hW : xWd G) {a : Nat} {t : List Nat} (hT : xTxC G a t) : xM G l yX7_isWord cX7_isWord 3 (Option.some Jvm.ClassFile.FieldType.boolean) [] 5 0 0 [.ref m, .ref a] h (fun r h2 => r = some (.int (bI (sp_isWord (B 9) F t))) ∧ MW m A F n B h0 h2) xNo := by
  refine xcode_start (by decide) (Nat.le_of_ble_eq_true rfl) hl ?_
  intro E hE B0
  subst hE
  have C := B0.1
  have hp10 := hP.1.2; have hp13 := hP.2.1.2; have hp14 := hP.2.2.1.2; have hp1 := hP.2.2.2.1; have hp2 := hP.2.2.2.2; obtain ⟨v, f, hash, hz, hc1, hc2, hc3, hc4, hc5⟩ := id hT
  show xW G E 3 0 0 h 0 [(0, .ref m), (1, .ref a)] []
  refine x_aload_n C dX7_isWord_0 rfl ?_
  refine m_getI C dX7_isWord_1 fl_X7_198_6 hM rfl ?_
  refine x_if_ne C 31 dX7_isWord_4 (by decide) (fun c_4 => ?_) (fun c_4 => ?_)
  · skip
    refine x_iconst C (nI 0) dX7_isWord_31 rfl ?_
    exact x_zret B0 dX7_isWord_32 rfl rfl (⟨by unfold sp_isWord; first | rw [bI_f (fun q => c_4 q.1)] | rw [bI_f (fun q => c_12 q.2.1)] | rw [bI_f (fun q => c_59 (q.2.2.2 k c_40))] | rw [bI_t (And.intro c_4 (And.intro c_12 (And.intro c_28 (fun j hj => hw j (by omega)))))] | rw [bI_f (fun q => c_28 q.2.2.1)], hM⟩)
  · skip
    refine x_aload_n C dX7_isWord_7 rfl ?_
    refine m_getI C dX7_isWord_8 fl_X7_192_6 hM rfl ?_
    refine x_iconst C (nI 1) dX7_isWord_11 rfl ?_
    refine x_icmp_ne C 31 dX7_isWord_12 (by decide) (fun c_12 => ?_) (fun c_12 => ?_)
    · skip
      refine x_iconst C (nI 0) dX7_isWord_31 rfl ?_
      exact x_zret B0 dX7_isWord_32 rfl rfl (⟨by unfold sp_isWord; first | rw [bI_f (fun q => c_4 q.1)] | rw [bI_f (fun q => c_12 q.2.1)] | rw [bI_f (fun q => c_59 (q.2.2.2 k c_40))] | rw [bI_t (And.intro c_4 (And.intro c_12 (And.intro c_28 (fun j hj => hw j (by omega)))))] | rw [bI_f (fun q => c_28 q.2.2.1)], hM⟩)
    · skip
      refine x_aload_n C dX7_isWord_15 rfl ?_
      refine m_getI C dX7_isWord_16 fl_X7_183_6 hM rfl ?_
      refine x_toi (nI (cn (F 13))) (by exact hP.2.1.1) ?_
      refine x_aload_n C dX7_isWord_19 rfl ?_
      refine m_getI C dX7_isWord_20 fl_X7_189_6 hM rfl ?_
      refine x_toi (nI (cn (F 14))) (by exact hP.2.2.1.1) ?_
      refine x_isub C dX7_isWord_23 ?_
      refine x_toi (nI ((cn (F 13)) - (cn (F 14)))) (pk_sub (by omega)) ?_
      refine x_aload_n C dX7_isWord_24 rfl ?_
      refine x_callV (mc' := 0) (ms' := 0) C dX7_isWord_25 (j_length hl hW (hT.tx h)) mf_J14_length q3682 q474 q475 (Or.inr hc1) rfl rfl rfl (Nat.le_of_ble_eq_true rfl) (by decide) rfl rfl (fun r h_25 hP => ?_) (fun _ _ _ hX => False.elim hX)
      obtain ⟨rfl, rfl⟩ := hP
      refine x_icmp_eq C 33 dX7_isWord_28 (by decide) (fun c_28 => ?_) (fun c_28 => ?_)
      · skip
        have c_28 := (xn_eqT ((cn (F 13)) - (cn (F 14))) t.length c_28 (by omega) (by omega))
        refine x_iconst C (nI 0) dX7_isWord_33 rfl ?_
        refine x_istore_n C dX7_isWord_34 (by decide) rfl ?_
        have L35 : ∀ (d : Nat) (k : Nat), t.length - k = d → (k ≤ t.length) → (∀ j, j < k → B 9 (cn (F 14) + j) = nI (t.getD j 0)) → ∀ h, MW m A F n B h0 h → xW G E 3 0 0 h 35 [(0, .ref m), (1, .ref a), (2, .int (nI k))] [] := by
          intro d
          induction d using Nat.strongRecOn with | _ d ih35 => ?_
          intro k hd35 hk hw h hM
          refine x_iload_n C dX7_isWord_35 rfl ?_
          refine x_aload_n C dX7_isWord_36 rfl ?_
          refine x_callV (mc' := 0) (ms' := 0) C dX7_isWord_37 (j_length hl hW (hT.tx h)) mf_J14_length q3682 q474 q475 (Or.inr hc1) rfl rfl rfl (Nat.le_of_ble_eq_true rfl) (by decide) rfl rfl (fun r h_37 hP => ?_) (fun _ _ _ hX => False.elim hX)
          obtain ⟨rfl, rfl⟩ := hP
          refine x_icmp_ge C 70 dX7_isWord_40 (by decide) (fun c_40 => ?_) (fun c_40 => ?_)
          · skip
            have c_40 := (xn_geT k t.length c_40 (by omega) (by omega))
            refine x_iconst C (nI 1) dX7_isWord_70 rfl ?_
            exact x_zret B0 dX7_isWord_71 rfl rfl (⟨by unfold sp_isWord; first | rw [bI_f (fun q => c_4 q.1)] | rw [bI_f (fun q => c_12 q.2.1)] | rw [bI_f (fun q => c_59 (q.2.2.2 k c_40))] | rw [bI_t (And.intro c_4 (And.intro c_12 (And.intro c_28 (fun j hj => hw j (by omega)))))] | rw [bI_f (fun q => c_28 q.2.2.1)], hM⟩)
          · skip
            have c_40 := (xn_geF k t.length c_40 (by omega) (by omega))
            refine x_aload_n C dX7_isWord_43 rfl ?_
            refine m_getA C dX7_isWord_44 fl_X7_33_6 hM rfl ?_
            refine x_aload_n C dX7_isWord_47 rfl ?_
            refine m_getI C dX7_isWord_48 fl_X7_189_6 hM rfl ?_
            refine x_toi (nI (cn (F 14))) (by exact (by exact hP.2.2.1.1)) ?_
            refine x_iload_n C dX7_isWord_51 rfl ?_
            refine x_iadd C dX7_isWord_52 ?_
            refine x_toi (nI ((cn (F 14)) + k)) (nI_add _ _) ?_
            refine m_ld C dX7_isWord_53 hM rfl (j := (cn (F 14)) + k) rfl (show _ < 700 from by omega) ?_
            refine x_aload_n C dX7_isWord_54 rfl ?_
            refine x_iload_n C dX7_isWord_55 rfl ?_
            refine x_callV (mc' := 0) (ms' := 0) C dX7_isWord_56 (j_charAt hl hW (hT.tx h) k (by omega)) mf_J14_charAt q3683 q903 q904 (Or.inr hc1) rfl rfl rfl (Nat.le_of_ble_eq_true rfl) (by decide) rfl rfl (fun r h_56 hP => ?_) (fun _ _ _ hX => False.elim hX)
            obtain ⟨rfl, rfl⟩ := hP
            refine x_icmp_eq C 64 dX7_isWord_59 (by decide) (fun c_59 => ?_) (fun c_59 => ?_)
            · skip
              refine x_iinc C (nI (k + 1)) dX7_isWord_64 rfl (nI_add _ 1) (by decide) rfl ?_
              refine x_goto C 35 dX7_isWord_67 (by decide) ?_
              refine x_locs2 [(0, .ref m), (1, .ref a), (2, .int (nI (k + 1)))] ⟨rfl, rfl, rfl, trivial⟩ ?_
              exact ih35 _ (by omega) (k + 1) rfl (by omega) (fun j hj => by rcases Nat.lt_succ_iff_lt_or_eq.mp hj with q | rfl; exact hw j q; exact c_59) h (by exact hM)
            · skip
              refine x_iconst C (nI 0) dX7_isWord_62 rfl ?_
              exact x_zret B0 dX7_isWord_63 rfl rfl (⟨by unfold sp_isWord; first | rw [bI_f (fun q => c_4 q.1)] | rw [bI_f (fun q => c_12 q.2.1)] | rw [bI_f (fun q => c_59 (q.2.2.2 k c_40))] | rw [bI_t (And.intro c_4 (And.intro c_12 (And.intro c_28 (fun j hj => hw j (by omega)))))] | rw [bI_f (fun q => c_28 q.2.2.1)], hM⟩)
        refine x_locs2 [(0, .ref m), (1, .ref a), (2, .int (nI 0))] ⟨rfl, rfl, rfl, trivial⟩ ?_
        exact L35 _ 0 rfl (by omega) (fun j hj => by omega) h (by exact hM)
      · skip
        have c_28 := (xn_eqF ((cn (F 13)) - (cn (F 14))) t.length c_28 (by omega) (by omega))
        refine x_iconst C (nI 0) dX7_isWord_31 rfl ?_
        exact x_zret B0 dX7_isWord_32 rfl rfl (⟨by unfold sp_isWord; first | rw [bI_f (fun q => c_4 q.1)] | rw [bI_f (fun q => c_12 q.2.1)] | rw [bI_f (fun q => c_59 (q.2.2.2 k c_40))] | rw [bI_t (And.intro c_4 (And.intro c_12 (And.intro c_28 (fun j hj => hw j (by omega)))))] | rw [bI_f (fun q => c_28 q.2.2.1)], hM⟩)
