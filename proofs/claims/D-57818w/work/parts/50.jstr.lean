/-! ===== String: length, charAt, equals ===== -/
theorem j_J14_coder {G : xG} {l : Launch} (hl : l.stackTraces = false) (hW : xWd G) {h : xAH} {a v : Nat} {hash hz : Int32} (H1 : xH G h a (xob 26 (vp_V [.ref v, .int (nI 0), .int hash, .int hz]))) : xM G l yJ14_coder cJ14_coder 1 (Option.some Jvm.ClassFile.FieldType.byte) [] 1 0 0 [.ref a] h (fun r h2 => r = some (.int (nI 0)) ∧ h = h2) xNo := by
  refine xcode_start (by decide) (Nat.le_of_ble_eq_true rfl) hl ?_
  intro E hE B0
  subst hE
  have C := B0.1
  show xW G E 1 0 0 h 0 [(0, .ref a)] []
  refine x_gets C dJ14_coder_0 sl_J14_38 hW.cs ?_
  refine x_if_eq C 13 dJ14_coder_3 (by decide) (fun c_3 => ?_) (fun c_3 => ?_)
  · exact absurd c_3 (by decide)
  · skip
    have c_3 := (xn_eqF 1 0 c_3 (by omega) (by omega))
    refine x_aload_n C dJ14_coder_6 rfl ?_
    refine x_getf C dJ14_coder_7 fl_J14_15_26 H1 rfl ?_
    refine x_goto C 14 dJ14_coder_10 (by decide) ?_
    exact x_zret B0 dJ14_coder_14 rfl rfl (⟨rfl, rfl⟩)
theorem j_J14_isLatin1 {G : xG} {l : Launch} (hl : l.stackTraces = false) (hW : xWd G) {h : xAH} {a v : Nat} {hash hz : Int32} (H1 : xH G h a (xob 26 (vp_V [.ref v, .int (nI 0), .int hash, .int hz]))) : xM G l yJ14_isLatin1 cJ14_isLatin1 1 (Option.some Jvm.ClassFile.FieldType.boolean) [] 1 0 0 [.ref a] h (fun r h2 => r = some (.int (nI 1)) ∧ h = h2) xNo := by
  refine xcode_start (by decide) (Nat.le_of_ble_eq_true rfl) hl ?_
  intro E hE B0
  subst hE
  have C := B0.1
  show xW G E 1 0 0 h 0 [(0, .ref a)] []
  refine x_gets C dJ14_isLatin1_0 sl_J14_38 hW.cs ?_
  refine x_if_eq C 17 dJ14_isLatin1_3 (by decide) (fun c_3 => ?_) (fun c_3 => ?_)
  · exact absurd c_3 (by decide)
  · skip
    have c_3 := (xn_eqF 1 0 c_3 (by omega) (by omega))
    refine x_aload_n C dJ14_isLatin1_6 rfl ?_
    refine x_getf C dJ14_isLatin1_7 fl_J14_15_26 H1 rfl ?_
    refine x_sel_if_ne C 17 18 dJ14_isLatin1_10 (by decide) dJ14_isLatin1_13 dJ14_isLatin1_14 (by decide) dJ14_isLatin1_17 rfl ?_
    exact x_zret B0 dJ14_isLatin1_18 rfl (bI_nar _) (⟨rfl, rfl⟩)
theorem j_J14_length {G : xG} {l : Launch} (hl : l.stackTraces = false) (hW : xWd G) {h : xAH} {a v : Nat} {hash hz : Int32} (H1 : xH G h a (xob 26 (vp_V [.ref v, .int (nI 0), .int hash, .int hz]))) {n : Nat} {f : Nat → Int32} (H2 : xH G h v (xar 1 n f)) (hn : n < 2 ^ 31) : xM G l yJ14_length cJ14_length 1 (Option.some Jvm.ClassFile.FieldType.int) [] 2 0 0 [.ref a] h (fun r h2 => r = some (.int (nI n)) ∧ h = h2) xNo := by
  refine xcode_start (by decide) (Nat.le_of_ble_eq_true rfl) hl ?_
  intro E hE B0
  subst hE
  have C := B0.1
  show xW G E 1 0 0 h 0 [(0, .ref a)] []
  refine x_aload_n C dJ14_length_0 rfl ?_
  refine x_getf C dJ14_length_1 fl_J14_9_26 H1 rfl ?_
  refine x_alen C dJ14_length_4 rfl H2 (v := nI n) rfl ?_
  refine x_aload_n C dJ14_length_5 rfl ?_
  refine x_callV (mc' := 0) (ms' := 0) C dJ14_length_6 (j_J14_coder hl hW H1) mf_J14_coder q477 q478 q479 H1 rfl rfl rfl (Nat.le_of_ble_eq_true rfl) (by decide) rfl rfl (fun r h_6 hP => ?_) (fun _ _ _ hX => False.elim hX)
  obtain ⟨rfl, rfl⟩ := hP
  refine x_ishr C dJ14_length_9 ?_
  refine x_toi (nI n) (shr0 n) ?_
  exact x_iret B0 dJ14_length_10 rfl (⟨rfl, rfl⟩)
theorem j_J19_checkIndex_n {G : xG} {l : Launch} (hl : l.stackTraces = false) (hW : xWd G) {h : xAH} (i n : Nat) (hi : i < n) (hn : n < 2 ^ 31) : xM G l yJ19_checkIndex cJ19_checkIndex 3 (Option.some Jvm.ClassFile.FieldType.int) [] 1 0 0 [.int (nI i), .int (nI n), .null] h (fun r h2 => r = some (.int (nI i)) ∧ h = h2) xNo := by
  refine xcode_start (by decide) (Nat.le_of_ble_eq_true rfl) hl ?_
  intro E hE B0
  subst hE
  have C := B0.1
  show xW G E 3 0 0 h 0 [(0, .int (nI i)), (1, .int (nI n)), (2, .null)] []
  refine x_iload_n C dJ19_checkIndex_0 rfl ?_
  refine x_if_lt C 9 dJ19_checkIndex_1 (by decide) (fun c_1 => ?_) (fun c_1 => ?_)
  · skip
    have c_1 := (xn_ltT i 0 c_1 (by omega) (by omega))
    omega
  · skip
    have c_1 := (xn_ltF i 0 c_1 (by omega) (by omega))
    refine x_iload_n C dJ19_checkIndex_4 rfl ?_
    refine x_iload_n C dJ19_checkIndex_5 rfl ?_
    refine x_icmp_lt C 16 dJ19_checkIndex_6 (by decide) (fun c_6 => ?_) (fun c_6 => ?_)
    · skip
      have c_6 := (xn_ltT i n c_6 (by omega) (by omega))
      refine x_iload_n C dJ19_checkIndex_16 rfl ?_
      exact x_iret B0 dJ19_checkIndex_17 rfl (⟨rfl, rfl⟩)
    · skip
      have c_6 := (xn_ltF i n c_6 (by omega) (by omega))
      omega
theorem j_J19_checkIndex_r {G : xG} {l : Launch} (hl : l.stackTraces = false) (hW : xWd G) {h : xAH} {q : Nat} (i n : Nat) (hi : i < n) (hn : n < 2 ^ 31) : xM G l yJ19_checkIndex cJ19_checkIndex 3 (Option.some Jvm.ClassFile.FieldType.int) [] 1 0 0 [.int (nI i), .int (nI n), .ref q] h (fun r h2 => r = some (.int (nI i)) ∧ h = h2) xNo := by
  refine xcode_start (by decide) (Nat.le_of_ble_eq_true rfl) hl ?_
  intro E hE B0
  subst hE
  have C := B0.1
  show xW G E 3 0 0 h 0 [(0, .int (nI i)), (1, .int (nI n)), (2, .ref q)] []
  refine x_iload_n C dJ19_checkIndex_0 rfl ?_
  refine x_if_lt C 9 dJ19_checkIndex_1 (by decide) (fun c_1 => ?_) (fun c_1 => ?_)
  · skip
    have c_1 := (xn_ltT i 0 c_1 (by omega) (by omega))
    omega
  · skip
    have c_1 := (xn_ltF i 0 c_1 (by omega) (by omega))
    refine x_iload_n C dJ19_checkIndex_4 rfl ?_
    refine x_iload_n C dJ19_checkIndex_5 rfl ?_
    refine x_icmp_lt C 16 dJ19_checkIndex_6 (by decide) (fun c_6 => ?_) (fun c_6 => ?_)
    · skip
      have c_6 := (xn_ltT i n c_6 (by omega) (by omega))
      refine x_iload_n C dJ19_checkIndex_16 rfl ?_
      exact x_iret B0 dJ19_checkIndex_17 rfl (⟨rfl, rfl⟩)
    · skip
      have c_6 := (xn_ltF i n c_6 (by omega) (by omega))
      omega
theorem j_J14_checkIndex {G : xG} {l : Launch} (hl : l.stackTraces = false) (hW : xWd G) {h : xAH} (i n : Nat) (hi : i < n) (hn : n < 2 ^ 31) : xM G l yJ14_checkIndex cJ14_checkIndex 2 (Option.none : Option Jvm.ClassFile.FieldType) [] 2 0 0 [.int (nI i), .int (nI n)] h (fun r h2 => r = none ∧ h = h2) xNo := by
  refine xcode_start (by decide) (Nat.le_of_ble_eq_true rfl) hl ?_
  intro E hE B0
  subst hE
  have C := B0.1
  show xW G E 2 0 0 h 0 [(0, .int (nI i)), (1, .int (nI n))] []
  refine x_iload_n C dJ14_checkIndex_0 rfl ?_
  refine x_iload_n C dJ14_checkIndex_1 rfl ?_
  rcases hW.f16 with e16 | ⟨q16, e16⟩
  · skip
    refine x_gets C dJ14_checkIndex_2 sl_J14_1053 e16 ?_
    refine x_callS (mc' := 0) (ms' := 0) C dJ14_checkIndex_5 (j_J19_checkIndex_n hl hW i n (by omega) (by omega)) mf_J19_checkIndex q815 q816 rfl rfl (Nat.le_of_ble_eq_true rfl) (by decide) rfl rfl (fun r h_5 hP => ?_) (fun _ _ _ hX => False.elim hX)
    obtain ⟨rfl, rfl⟩ := hP
    refine x_pop C dJ14_checkIndex_8 rfl ?_
    exact x_ret B0 dJ14_checkIndex_9 rfl (⟨rfl, rfl⟩)
  · skip
    refine x_gets C dJ14_checkIndex_2 sl_J14_1053 e16 ?_
    refine x_callS (mc' := 0) (ms' := 0) C dJ14_checkIndex_5 (j_J19_checkIndex_r hl hW i n (by omega) (by omega)) mf_J19_checkIndex q815 q816 rfl rfl (Nat.le_of_ble_eq_true rfl) (by decide) rfl rfl (fun r h_5 hP => ?_) (fun _ _ _ hX => False.elim hX)
    obtain ⟨rfl, rfl⟩ := hP
    refine x_pop C dJ14_checkIndex_8 rfl ?_
    exact x_ret B0 dJ14_checkIndex_9 rfl (⟨rfl, rfl⟩)
theorem j_J20_charAt {G : xG} {l : Launch} (hl : l.stackTraces = false) (hW : xWd G) {h : xAH} {v n : Nat} {f : Nat → Int32} (H2 : xH G h v (xar 1 n f)) (hn : n < 2 ^ 31) (i c : Nat) (hi : i < n) (hc : f i = nI c) (hc2 : c < 128) : xM G l yJ20_charAt cJ20_charAt 2 (Option.some Jvm.ClassFile.FieldType.char) [] 3 0 0 [.ref v, .int (nI i)] h (fun r h2 => r = some (.int (nI c)) ∧ h = h2) xNo := by
  refine xcode_start (by decide) (Nat.le_of_ble_eq_true rfl) hl ?_
  intro E hE B0
  subst hE
  have C := B0.1
  show xW G E 2 0 0 h 0 [(0, .ref v), (1, .int (nI i))] []
  refine x_iload_n C dJ20_charAt_0 rfl ?_
  refine x_aload_n C dJ20_charAt_1 rfl ?_
  refine x_alen C dJ20_charAt_2 rfl H2 (v := nI n) rfl ?_
  refine x_callS (mc' := 0) (ms' := 0) C dJ20_charAt_3 (j_J14_checkIndex hl hW i n (by omega) (by omega)) mf_J14_checkIndex q910 q813 rfl rfl (Nat.le_of_ble_eq_true rfl) (by decide) rfl rfl (fun r h_3 hP => ?_) (fun _ _ _ hX => False.elim hX)
  obtain ⟨rfl, rfl⟩ := hP
  refine x_aload_n C dJ20_charAt_6 rfl ?_
  refine x_iload_n C dJ20_charAt_7 rfl ?_
  refine x_bald C dJ20_charAt_8 rfl H2 (pk_in i _ (by omega) rfl) (v := f i) (congrArg _ (nI_clamp (by omega))) ?_
  refine x_toi (nI c) hc ?_
  refine x_sipush C (nI 255) dJ20_charAt_9 rfl ?_
  refine x_iand C dJ20_charAt_12 ?_
  refine x_i2c C dJ20_charAt_13 ?_
  refine x_toi (nI c) (asc_char hc2) ?_
  exact x_zret B0 dJ20_charAt_14 rfl (pk_charN (by omega)).1 (⟨rfl, rfl⟩)
theorem j_J14_charAt {G : xG} {l : Launch} (hl : l.stackTraces = false) (hW : xWd G) {h : xAH} {a v : Nat} {hash hz : Int32} (H1 : xH G h a (xob 26 (vp_V [.ref v, .int (nI 0), .int hash, .int hz]))) {n : Nat} {f : Nat → Int32} (H2 : xH G h v (xar 1 n f)) (hn : n < 2 ^ 31) (i c : Nat) (hi : i < n) (hc : f i = nI c) (hc2 : c < 128) : xM G l yJ14_charAt cJ14_charAt 2 (Option.some Jvm.ClassFile.FieldType.char) [] 4 0 0 [.ref a, .int (nI i)] h (fun r h2 => r = some (.int (nI c)) ∧ h = h2) xNo := by
  refine xcode_start (by decide) (Nat.le_of_ble_eq_true rfl) hl ?_
  intro E hE B0
  subst hE
  have C := B0.1
  show xW G E 2 0 0 h 0 [(0, .ref a), (1, .int (nI i))] []
  refine x_aload_n C dJ14_charAt_0 rfl ?_
  refine x_callV (mc' := 0) (ms' := 0) C dJ14_charAt_1 (j_J14_isLatin1 hl hW H1) mf_J14_isLatin1 q906 q895 q896 H1 rfl rfl rfl (Nat.le_of_ble_eq_true rfl) (by decide) rfl rfl (fun r h_1 hP => ?_) (fun _ _ _ hX => False.elim hX)
  obtain ⟨rfl, rfl⟩ := hP
  refine x_if_eq C 16 dJ14_charAt_4 (by decide) (fun c_4 => ?_) (fun c_4 => ?_)
  · exact absurd c_4 (by decide)
  · skip
    have c_4 := (xn_eqF 1 0 c_4 (by omega) (by omega))
    refine x_aload_n C dJ14_charAt_7 rfl ?_
    refine x_getf C dJ14_charAt_8 fl_J14_9_26 H1 rfl ?_
    refine x_iload_n C dJ14_charAt_11 rfl ?_
    refine x_callS (mc' := 0) (ms' := 0) C dJ14_charAt_12 (j_J20_charAt hl hW H2 hn i c (by omega) hc hc2) mf_J20_charAt q907 q908 rfl rfl (Nat.le_of_ble_eq_true rfl) (by decide) rfl rfl (fun r h_12 hP => ?_) (fun _ _ _ hX => False.elim hX)
    obtain ⟨rfl, rfl⟩ := hP
    exact x_zret B0 dJ14_charAt_15 rfl (pk_charN (by omega)).1 (⟨rfl, rfl⟩)
theorem j_length {G : xG} {l : Launch} (hl : l.stackTraces = false) (hW : xWd G) {h : xAH} {a : Nat} {t : List Nat} (ht : xTx G h a t) : xM G l yJ14_length cJ14_length 1 (Option.some Jvm.ClassFile.FieldType.int) [] 2 0 0 [.ref a] h (fun r h2 => r = some (.int (nI t.length)) ∧ h = h2) xNo := by
  obtain ⟨v, f, hash, hz, h1, h2, h3, h4, h5⟩ := ht
  exact j_J14_length hl hW h1 h2 (by omega)
theorem j_charAt {G : xG} {l : Launch} (hl : l.stackTraces = false) (hW : xWd G) {h : xAH} {a : Nat} {t : List Nat} (ht : xTx G h a t) (i : Nat) (hi : i < t.length) : xM G l yJ14_charAt cJ14_charAt 2 (Option.some Jvm.ClassFile.FieldType.char) [] 4 0 0 [.ref a, .int (nI i)] h (fun r h2 => r = some (.int (nI (t.getD i 0))) ∧ h = h2) xNo := by
  obtain ⟨v, f, hash, hz, h1, h2, h3, h4, h5⟩ := ht
  exact j_J14_charAt hl hW h1 h2 (by omega) i _ hi (h3 i hi) (h4 _ (by rw [List.getD_eq_getElem?_getD, List.getElem?_eq_getElem hi]; exact List.getElem_mem hi))
