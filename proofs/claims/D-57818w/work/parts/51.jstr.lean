/-! ===== String.equals ===== -/
theorem j_J20_equals {G : xG} {l : Launch} (hl : l.stackTraces = false) (hW : xWd G) {h : xAH} {v w : Nat} {f g : Nat → Int32} {t s : List Nat} (H2 : xH G h v (xar 1 t.length f)) (hf : xLt f t) (H4 : xH G h w (xar 1 s.length g)) (hg : xLt g s) : xM G l yJ20_equals cJ20_equals 3 (Option.some Jvm.ClassFile.FieldType.boolean) [] 1 0 0 [.ref v, .ref w] h (fun r h2 => r = some (.int (bI (decide (t = s)))) ∧ h = h2) xNo := by
  refine xcode_start (by decide) (Nat.le_of_ble_eq_true rfl) hl ?_
  intro E hE B0
  subst hE
  have C := B0.1
  have ht2 := hf.2.2; have hs2 := hg.2.2
  show xW G E 3 0 0 h 0 [(0, .ref v), (1, .ref w)] []
  refine x_aload_n C dJ20_equals_0 rfl ?_
  refine x_alen C dJ20_equals_1 rfl H2 (v := nI t.length) rfl ?_
  refine x_aload_n C dJ20_equals_2 rfl ?_
  refine x_alen C dJ20_equals_3 rfl H4 (v := nI s.length) rfl ?_
  refine x_icmp_ne C 34 dJ20_equals_4 (by decide) (fun c_4 => ?_) (fun c_4 => ?_)
  · skip
    have c_4 := (xn_neT t.length s.length c_4 (by omega) (by omega))
    refine x_iconst C (nI 0) dJ20_equals_34 rfl ?_
    exact x_zret B0 dJ20_equals_35 rfl rfl (⟨by first | rw [bI_f (hf.nev hg c_12 c_21)] | rw [bI_t (hf.eqv hg c_4 (fun j hj => hw j (by omega)))] | rw [bI_f (fun e => c_4 (by rw [e]))], rfl⟩)
  · skip
    have c_4 := (xn_neF t.length s.length c_4 (by omega) (by omega))
    refine x_iconst C (nI 0) dJ20_equals_7 rfl ?_
    refine x_istore_n C dJ20_equals_8 (by decide) rfl ?_
    have L9 : ∀ (d : Nat) (k : Nat), t.length - k = d → (k ≤ t.length) → (∀ j, j < k → f j = g j) → xW G E 3 0 0 h 9 [(0, .ref v), (1, .ref w), (2, .int (nI k))] [] := by
      intro d
      induction d using Nat.strongRecOn with | _ d ih9 => ?_
      intro k hd9 hk hw
      refine x_iload_n C dJ20_equals_9 rfl ?_
      refine x_aload_n C dJ20_equals_10 rfl ?_
      refine x_alen C dJ20_equals_11 rfl H2 (v := nI t.length) rfl ?_
      refine x_icmp_ge C 32 dJ20_equals_12 (by decide) (fun c_12 => ?_) (fun c_12 => ?_)
      · skip
        have c_12 := (xn_geT k t.length c_12 (by omega) (by omega))
        refine x_iconst C (nI 1) dJ20_equals_32 rfl ?_
        exact x_zret B0 dJ20_equals_33 rfl rfl (⟨by first | rw [bI_f (hf.nev hg c_12 c_21)] | rw [bI_t (hf.eqv hg c_4 (fun j hj => hw j (by omega)))] | rw [bI_f (fun e => c_4 (by rw [e]))], rfl⟩)
      · skip
        have c_12 := (xn_geF k t.length c_12 (by omega) (by omega))
        refine x_aload_n C dJ20_equals_15 rfl ?_
        refine x_iload_n C dJ20_equals_16 rfl ?_
        refine x_bald C dJ20_equals_17 rfl H2 (pk_in k _ (by omega) rfl) (v := f k) (congrArg _ (nI_clamp (by omega))) ?_
        refine x_aload_n C dJ20_equals_18 rfl ?_
        refine x_iload_n C dJ20_equals_19 rfl ?_
        refine x_bald C dJ20_equals_20 rfl H4 (pk_in k _ (by omega) rfl) (v := g k) (congrArg _ (nI_clamp (by omega))) ?_
        refine x_icmp_eq C 26 dJ20_equals_21 (by decide) (fun c_21 => ?_) (fun c_21 => ?_)
        · skip
          refine x_iinc C (nI (k + 1)) dJ20_equals_26 rfl (nI_add _ 1) (by decide) rfl ?_
          refine x_goto C 9 dJ20_equals_29 (by decide) ?_
          refine x_locs2 [(0, .ref v), (1, .ref w), (2, .int (nI (k + 1)))] ⟨rfl, rfl, rfl, trivial⟩ ?_
          exact ih9 _ (by omega) (k + 1) rfl (by omega) (fun j hj => by rcases Nat.lt_succ_iff_lt_or_eq.mp hj with q | rfl; exact hw j q; exact c_21)
        · skip
          refine x_iconst C (nI 0) dJ20_equals_24 rfl ?_
          exact x_zret B0 dJ20_equals_25 rfl rfl (⟨by first | rw [bI_f (hf.nev hg c_12 c_21)] | rw [bI_t (hf.eqv hg c_4 (fun j hj => hw j (by omega)))] | rw [bI_f (fun e => c_4 (by rw [e]))], rfl⟩)
    refine x_locs2 [(0, .ref v), (1, .ref w), (2, .int (nI 0))] ⟨rfl, rfl, rfl, trivial⟩ ?_
    exact L9 _ 0 rfl (by omega) (fun j hj => by omega)
theorem j_J14_equals {G : xG} {l : Launch} (hl : l.stackTraces = false) (hW : xWd G) {h : xAH} {a b v w : Nat} {hash hz hash2 hz2 : Int32} {f g : Nat → Int32} {t s : List Nat} (H1 : xH G h a (xob 26 (vp_V [.ref v, .int (nI 0), .int hash, .int hz]))) (H2 : xH G h v (xar 1 t.length f)) (hf : xLt f t) (H3 : xH G h b (xob 26 (vp_V [.ref w, .int (nI 0), .int hash2, .int hz2]))) (H4 : xH G h w (xar 1 s.length g)) (hg : xLt g s) (hu : a = b → t = s) : xM G l yJ14_equals cJ14_equals 3 (Option.some Jvm.ClassFile.FieldType.boolean) [] 2 0 0 [.ref a, .ref b] h (fun r h2 => r = some (.int (bI (decide (t = s)))) ∧ h = h2) xNo := by
  refine xcode_start (by decide) (Nat.le_of_ble_eq_true rfl) hl ?_
  intro E hE B0
  subst hE
  have C := B0.1
  show xW G E 3 0 0 h 0 [(0, .ref a), (1, .ref b)] []
  refine x_aload_n C dJ14_equals_0 rfl ?_
  refine x_aload_n C dJ14_equals_1 rfl ?_
  refine x_acmp_ne (rx := (some a)) (ry := (some b)) C 7 dJ14_equals_2 (by decide) (fun c_2 => ?_) (fun c_2 => ?_)
  · skip
    refine x_aload_n C dJ14_equals_7 rfl ?_
    refine x_inst C dJ14_equals_8 q1660 H3 rfl (Or.inl rfl) ?_
    refine x_toi (nI 1) rfl ?_
    refine x_if_eq C 54 dJ14_equals_11 (by decide) (fun c_11 => ?_) (fun c_11 => ?_)
    · exact absurd c_11 (by decide)
    · skip
      have c_11 := (xn_eqF 1 0 c_11 (by omega) (by omega))
      refine x_aload_n C dJ14_equals_14 rfl ?_
      refine x_cast C dJ14_equals_15 q1660 H3 rfl (Or.inl rfl) ?_
      refine x_astore_n C dJ14_equals_18 (by decide) rfl ?_
      refine x_gets C dJ14_equals_19 sl_J14_38 hW.cs ?_
      refine x_if_eq C 36 dJ14_equals_22 (by decide) (fun c_22 => ?_) (fun c_22 => ?_)
      · exact absurd c_22 (by decide)
      · skip
        have c_22 := (xn_eqF 1 0 c_22 (by omega) (by omega))
        refine x_aload_n C dJ14_equals_25 rfl ?_
        refine x_getf C dJ14_equals_26 fl_J14_15_26 H1 rfl ?_
        refine x_aload_n C dJ14_equals_29 rfl ?_
        refine x_getf C dJ14_equals_30 fl_J14_15_26 H3 rfl ?_
        refine x_icmp_ne C 54 dJ14_equals_33 (by decide) (fun c_33 => ?_) (fun c_33 => ?_)
        · exact absurd c_33 (by decide)
        · skip
          have c_33 := (xn_neF 0 0 c_33 (by omega) (by omega))
          refine x_aload_n C dJ14_equals_36 rfl ?_
          refine x_getf C dJ14_equals_37 fl_J14_9_26 H1 rfl ?_
          refine x_aload_n C dJ14_equals_40 rfl ?_
          refine x_getf C dJ14_equals_41 fl_J14_9_26 H3 rfl ?_
          refine x_callS (mc' := 0) (ms' := 0) C dJ14_equals_44 (j_J20_equals hl hW H2 hf H4 hg) mf_J20_equals q1890 q1891 rfl rfl (Nat.le_of_ble_eq_true rfl) (by decide) rfl rfl (fun r h_44 hP => ?_) (fun _ _ _ hX => False.elim hX)
          obtain ⟨rfl, rfl⟩ := hP
          by_cases hb_47 : t = s
          · refine x_toi (nI 1) (bI_t hb_47) ?_
            refine x_if_eq C 54 dJ14_equals_47 (by decide) (fun c_47 => ?_) (fun c_47 => ?_)
            · exact absurd c_47 (by decide)
            refine x_iconst C (nI 1) dJ14_equals_50 rfl ?_
            refine x_goto C 55 dJ14_equals_51 (by decide) ?_
            exact x_zret B0 dJ14_equals_55 rfl rfl (⟨by first | rw [bI_t (hu (Option.some.inj c_2))] | rw [bI_t hb_47] | rw [bI_f hb_47], rfl⟩)
          · refine x_toi (nI 0) (bI_f hb_47) ?_
            refine x_if_eq C 54 dJ14_equals_47 (by decide) (fun c_47 => ?_) (fun c_47 => ?_)
            rotate_left
            · exact absurd c_47 (by decide)
            refine x_iconst C (nI 0) dJ14_equals_54 rfl ?_
            exact x_zret B0 dJ14_equals_55 rfl rfl (⟨by first | rw [bI_t (hu (Option.some.inj c_2))] | rw [bI_t hb_47] | rw [bI_f hb_47], rfl⟩)
  · skip
    refine x_iconst C (nI 1) dJ14_equals_5 rfl ?_
    exact x_zret B0 dJ14_equals_6 rfl rfl (⟨by first | rw [bI_t (hu (Option.some.inj c_2))] | rw [bI_t hb_47] | rw [bI_f hb_47], rfl⟩)
theorem xTx.lt {G : xG} {h : xAH} {a : Nat} {t : List Nat} (ht : xTx G h a t) : ∃ (v : Nat) (f : Nat → Int32) (hash hz : Int32), xH G h a (xob 26 (vp_V [.ref v, .int (nI 0), .int hash, .int hz])) ∧ xH G h v (xar 1 t.length f) ∧ xLt f t := by
  obtain ⟨v, f, hash, hz, h1, h2, h3, h4, h5⟩ := ht
  exact ⟨v, f, hash, hz, h1, h2, h3, h4, h5⟩
theorem j_equals {G : xG} {l : Launch} (hl : l.stackTraces = false) (hW : xWd G) {h : xAH} {a b : Nat} {t s : List Nat} (ht : xTx G h a t) (hs : xTx G h b s) (hu : a = b → t = s) : xM G l yJ14_equals cJ14_equals 3 (Option.some Jvm.ClassFile.FieldType.boolean) [] 2 0 0 [.ref a, .ref b] h (fun r h2 => r = some (.int (bI (decide (t = s)))) ∧ h = h2) xNo := by
  obtain ⟨v, f, hash, hz, h1, h2, h3⟩ := ht.lt
  obtain ⟨v2, f2, hash2, hz2, g1, g2, g3⟩ := hs.lt
  exact j_J14_equals hl hW h1 h2 h3 g1 g2 g3 hu
