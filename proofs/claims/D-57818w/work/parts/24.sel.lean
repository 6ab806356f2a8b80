/-! ===== a condition, made a number ===== -/
theorem x_sel_icmp_eq {G : xG} {E : xE} {y : MethodName} {cc : ByteArray} {nL : Nat} {ret : Option FieldType} {hh : xH_} {n mc ms : Nat} {h : xAH} {pc : Nat} {L : List (Nat × Value)} {st : List Value} (C : xC G E y cc nL ret hh n) {x y2 : Int32} {off off2 : Int} (t L2 : Nat) (d : decode cc pc = .ok (.if_icmp .eq off, 3)) (ht : (pc : Int) + off = (t : Int)) (d1 : decode cc (pc + 3) = .ok (.iconst 1, 1)) (d2 : decode cc (pc + 4) = .ok (.goto off2, 3)) (ht2 : ((pc + 4 : Nat) : Int) + off2 = (L2 : Int)) (d3 : decode cc t = .ok (.iconst 0, 1)) (e3 : t + 1 = L2) (k : xW G E nL mc ms h L2 L (.int (bI (decide (¬ x = y2))) :: st)) : xW G E nL mc ms h pc L (.int y2 :: .int x :: st) := by
  refine x_icmp_eq C t d ht (fun c => ?_) (fun c => ?_)
  · refine x_iconst C 0 d3 rfl ?_
    rw [bI_f (p := ¬ x = y2) (fun q => q c)] at k
    rw [e3]
    exact k
  · refine x_iconst C 1 d1 rfl ?_
    refine x_goto C L2 d2 ht2 ?_
    rw [bI_t (p := ¬ x = y2) (c)] at k
    exact k
theorem x_sel_icmp_ne {G : xG} {E : xE} {y : MethodName} {cc : ByteArray} {nL : Nat} {ret : Option FieldType} {hh : xH_} {n mc ms : Nat} {h : xAH} {pc : Nat} {L : List (Nat × Value)} {st : List Value} (C : xC G E y cc nL ret hh n) {x y2 : Int32} {off off2 : Int} (t L2 : Nat) (d : decode cc pc = .ok (.if_icmp .ne off, 3)) (ht : (pc : Int) + off = (t : Int)) (d1 : decode cc (pc + 3) = .ok (.iconst 1, 1)) (d2 : decode cc (pc + 4) = .ok (.goto off2, 3)) (ht2 : ((pc + 4 : Nat) : Int) + off2 = (L2 : Int)) (d3 : decode cc t = .ok (.iconst 0, 1)) (e3 : t + 1 = L2) (k : xW G E nL mc ms h L2 L (.int (bI (decide (x = y2))) :: st)) : xW G E nL mc ms h pc L (.int y2 :: .int x :: st) := by
  refine x_icmp_ne C t d ht (fun c => ?_) (fun c => ?_)
  · refine x_iconst C 0 d3 rfl ?_
    rw [bI_f (p := x = y2) (c)] at k
    rw [e3]
    exact k
  · refine x_iconst C 1 d1 rfl ?_
    refine x_goto C L2 d2 ht2 ?_
    rw [bI_t (p := x = y2) (c)] at k
    exact k
theorem x_sel_icmp_lt {G : xG} {E : xE} {y : MethodName} {cc : ByteArray} {nL : Nat} {ret : Option FieldType} {hh : xH_} {n mc ms : Nat} {h : xAH} {pc : Nat} {L : List (Nat × Value)} {st : List Value} (C : xC G E y cc nL ret hh n) {x y2 : Int32} {off off2 : Int} (t L2 : Nat) (d : decode cc pc = .ok (.if_icmp .lt off, 3)) (ht : (pc : Int) + off = (t : Int)) (d1 : decode cc (pc + 3) = .ok (.iconst 1, 1)) (d2 : decode cc (pc + 4) = .ok (.goto off2, 3)) (ht2 : ((pc + 4 : Nat) : Int) + off2 = (L2 : Int)) (d3 : decode cc t = .ok (.iconst 0, 1)) (e3 : t + 1 = L2) (k : xW G E nL mc ms h L2 L (.int (bI (decide (y2 ≤ x))) :: st)) : xW G E nL mc ms h pc L (.int y2 :: .int x :: st) := by
  refine x_icmp_lt C t d ht (fun c => ?_) (fun c => ?_)
  · refine x_iconst C 0 d3 rfl ?_
    rw [bI_f (p := y2 ≤ x) (i_nle c)] at k
    rw [e3]
    exact k
  · refine x_iconst C 1 d1 rfl ?_
    refine x_goto C L2 d2 ht2 ?_
    rw [bI_t (p := y2 ≤ x) (i_le c)] at k
    exact k
theorem x_sel_icmp_ge {G : xG} {E : xE} {y : MethodName} {cc : ByteArray} {nL : Nat} {ret : Option FieldType} {hh : xH_} {n mc ms : Nat} {h : xAH} {pc : Nat} {L : List (Nat × Value)} {st : List Value} (C : xC G E y cc nL ret hh n) {x y2 : Int32} {off off2 : Int} (t L2 : Nat) (d : decode cc pc = .ok (.if_icmp .ge off, 3)) (ht : (pc : Int) + off = (t : Int)) (d1 : decode cc (pc + 3) = .ok (.iconst 1, 1)) (d2 : decode cc (pc + 4) = .ok (.goto off2, 3)) (ht2 : ((pc + 4 : Nat) : Int) + off2 = (L2 : Int)) (d3 : decode cc t = .ok (.iconst 0, 1)) (e3 : t + 1 = L2) (k : xW G E nL mc ms h L2 L (.int (bI (decide (x < y2))) :: st)) : xW G E nL mc ms h pc L (.int y2 :: .int x :: st) := by
  refine x_icmp_ge C t d ht (fun c => ?_) (fun c => ?_)
  · refine x_iconst C 0 d3 rfl ?_
    rw [bI_f (p := x < y2) (i_nlt c)] at k
    rw [e3]
    exact k
  · refine x_iconst C 1 d1 rfl ?_
    refine x_goto C L2 d2 ht2 ?_
    rw [bI_t (p := x < y2) (i_lt c)] at k
    exact k
theorem x_sel_icmp_gt {G : xG} {E : xE} {y : MethodName} {cc : ByteArray} {nL : Nat} {ret : Option FieldType} {hh : xH_} {n mc ms : Nat} {h : xAH} {pc : Nat} {L : List (Nat × Value)} {st : List Value} (C : xC G E y cc nL ret hh n) {x y2 : Int32} {off off2 : Int} (t L2 : Nat) (d : decode cc pc = .ok (.if_icmp .gt off, 3)) (ht : (pc : Int) + off = (t : Int)) (d1 : decode cc (pc + 3) = .ok (.iconst 1, 1)) (d2 : decode cc (pc + 4) = .ok (.goto off2, 3)) (ht2 : ((pc + 4 : Nat) : Int) + off2 = (L2 : Int)) (d3 : decode cc t = .ok (.iconst 0, 1)) (e3 : t + 1 = L2) (k : xW G E nL mc ms h L2 L (.int (bI (decide (x ≤ y2))) :: st)) : xW G E nL mc ms h pc L (.int y2 :: .int x :: st) := by
  refine x_icmp_gt C t d ht (fun c => ?_) (fun c => ?_)
  · refine x_iconst C 0 d3 rfl ?_
    rw [bI_f (p := x ≤ y2) (i_nle c)] at k
    rw [e3]
    exact k
  · refine x_iconst C 1 d1 rfl ?_
    refine x_goto C L2 d2 ht2 ?_
    rw [bI_t (p := x ≤ y2) (i_le c)] at k
    exact k
theorem x_sel_icmp_le {G : xG} {E : xE} {y : MethodName} {cc : ByteArray} {nL : Nat} {ret : Option FieldType} {hh : xH_} {n mc ms : Nat} {h : xAH} {pc : Nat} {L : List (Nat × Value)} {st : List Value} (C : xC G E y cc nL ret hh n) {x y2 : Int32} {off off2 : Int} (t L2 : Nat) (d : decode cc pc = .ok (.if_icmp .le off, 3)) (ht : (pc : Int) + off = (t : Int)) (d1 : decode cc (pc + 3) = .ok (.iconst 1, 1)) (d2 : decode cc (pc + 4) = .ok (.goto off2, 3)) (ht2 : ((pc + 4 : Nat) : Int) + off2 = (L2 : Int)) (d3 : decode cc t = .ok (.iconst 0, 1)) (e3 : t + 1 = L2) (k : xW G E nL mc ms h L2 L (.int (bI (decide (y2 < x))) :: st)) : xW G E nL mc ms h pc L (.int y2 :: .int x :: st) := by
  refine x_icmp_le C t d ht (fun c => ?_) (fun c => ?_)
  · refine x_iconst C 0 d3 rfl ?_
    rw [bI_f (p := y2 < x) (i_nlt c)] at k
    rw [e3]
    exact k
  · refine x_iconst C 1 d1 rfl ?_
    refine x_goto C L2 d2 ht2 ?_
    rw [bI_t (p := y2 < x) (i_lt c)] at k
    exact k
theorem x_sel_if_eq {G : xG} {E : xE} {y : MethodName} {cc : ByteArray} {nL : Nat} {ret : Option FieldType} {hh : xH_} {n mc ms : Nat} {h : xAH} {pc : Nat} {L : List (Nat × Value)} {st : List Value} (C : xC G E y cc nL ret hh n) {x : Int32} {off off2 : Int} (t L2 : Nat) (d : decode cc pc = .ok (.ifCond .eq off, 3)) (ht : (pc : Int) + off = (t : Int)) (d1 : decode cc (pc + 3) = .ok (.iconst 1, 1)) (d2 : decode cc (pc + 4) = .ok (.goto off2, 3)) (ht2 : ((pc + 4 : Nat) : Int) + off2 = (L2 : Int)) (d3 : decode cc t = .ok (.iconst 0, 1)) (e3 : t + 1 = L2) (k : xW G E nL mc ms h L2 L (.int (bI (decide (¬ x = 0))) :: st)) : xW G E nL mc ms h pc L (.int x :: st) := by
  refine x_if_eq C t d ht (fun c => ?_) (fun c => ?_)
  · refine x_iconst C 0 d3 rfl ?_
    rw [bI_f (p := ¬ x = 0) (fun q => q c)] at k
    rw [e3]
    exact k
  · refine x_iconst C 1 d1 rfl ?_
    refine x_goto C L2 d2 ht2 ?_
    rw [bI_t (p := ¬ x = 0) (c)] at k
    exact k
theorem x_sel_if_ne {G : xG} {E : xE} {y : MethodName} {cc : ByteArray} {nL : Nat} {ret : Option FieldType} {hh : xH_} {n mc ms : Nat} {h : xAH} {pc : Nat} {L : List (Nat × Value)} {st : List Value} (C : xC G E y cc nL ret hh n) {x : Int32} {off off2 : Int} (t L2 : Nat) (d : decode cc pc = .ok (.ifCond .ne off, 3)) (ht : (pc : Int) + off = (t : Int)) (d1 : decode cc (pc + 3) = .ok (.iconst 1, 1)) (d2 : decode cc (pc + 4) = .ok (.goto off2, 3)) (ht2 : ((pc + 4 : Nat) : Int) + off2 = (L2 : Int)) (d3 : decode cc t = .ok (.iconst 0, 1)) (e3 : t + 1 = L2) (k : xW G E nL mc ms h L2 L (.int (bI (decide (x = 0))) :: st)) : xW G E nL mc ms h pc L (.int x :: st) := by
  refine x_if_ne C t d ht (fun c => ?_) (fun c => ?_)
  · refine x_iconst C 0 d3 rfl ?_
    rw [bI_f (p := x = 0) (c)] at k
    rw [e3]
    exact k
  · refine x_iconst C 1 d1 rfl ?_
    refine x_goto C L2 d2 ht2 ?_
    rw [bI_t (p := x = 0) (c)] at k
    exact k
theorem x_sel_if_lt {G : xG} {E : xE} {y : MethodName} {cc : ByteArray} {nL : Nat} {ret : Option FieldType} {hh : xH_} {n mc ms : Nat} {h : xAH} {pc : Nat} {L : List (Nat × Value)} {st : List Value} (C : xC G E y cc nL ret hh n) {x : Int32} {off off2 : Int} (t L2 : Nat) (d : decode cc pc = .ok (.ifCond .lt off, 3)) (ht : (pc : Int) + off = (t : Int)) (d1 : decode cc (pc + 3) = .ok (.iconst 1, 1)) (d2 : decode cc (pc + 4) = .ok (.goto off2, 3)) (ht2 : ((pc + 4 : Nat) : Int) + off2 = (L2 : Int)) (d3 : decode cc t = .ok (.iconst 0, 1)) (e3 : t + 1 = L2) (k : xW G E nL mc ms h L2 L (.int (bI (decide (0 ≤ x))) :: st)) : xW G E nL mc ms h pc L (.int x :: st) := by
  refine x_if_lt C t d ht (fun c => ?_) (fun c => ?_)
  · refine x_iconst C 0 d3 rfl ?_
    rw [bI_f (p := 0 ≤ x) (i_nle c)] at k
    rw [e3]
    exact k
  · refine x_iconst C 1 d1 rfl ?_
    refine x_goto C L2 d2 ht2 ?_
    rw [bI_t (p := 0 ≤ x) (i_le c)] at k
    exact k
theorem x_sel_if_ge {G : xG} {E : xE} {y : MethodName} {cc : ByteArray} {nL : Nat} {ret : Option FieldType} {hh : xH_} {n mc ms : Nat} {h : xAH} {pc : Nat} {L : List (Nat × Value)} {st : List Value} (C : xC G E y cc nL ret hh n) {x : Int32} {off off2 : Int} (t L2 : Nat) (d : decode cc pc = .ok (.ifCond .ge off, 3)) (ht : (pc : Int) + off = (t : Int)) (d1 : decode cc (pc + 3) = .ok (.iconst 1, 1)) (d2 : decode cc (pc + 4) = .ok (.goto off2, 3)) (ht2 : ((pc + 4 : Nat) : Int) + off2 = (L2 : Int)) (d3 : decode cc t = .ok (.iconst 0, 1)) (e3 : t + 1 = L2) (k : xW G E nL mc ms h L2 L (.int (bI (decide (x < 0))) :: st)) : xW G E nL mc ms h pc L (.int x :: st) := by
  refine x_if_ge C t d ht (fun c => ?_) (fun c => ?_)
  · refine x_iconst C 0 d3 rfl ?_
    rw [bI_f (p := x < 0) (i_nlt c)] at k
    rw [e3]
    exact k
  · refine x_iconst C 1 d1 rfl ?_
    refine x_goto C L2 d2 ht2 ?_
    rw [bI_t (p := x < 0) (i_lt c)] at k
    exact k
theorem x_sel_if_gt {G : xG} {E : xE} {y : MethodName} {cc : ByteArray} {nL : Nat} {ret : Option FieldType} {hh : xH_} {n mc ms : Nat} {h : xAH} {pc : Nat} {L : List (Nat × Value)} {st : List Value} (C : xC G E y cc nL ret hh n) {x : Int32} {off off2 : Int} (t L2 : Nat) (d : decode cc pc = .ok (.ifCond .gt off, 3)) (ht : (pc : Int) + off = (t : Int)) (d1 : decode cc (pc + 3) = .ok (.iconst 1, 1)) (d2 : decode cc (pc + 4) = .ok (.goto off2, 3)) (ht2 : ((pc + 4 : Nat) : Int) + off2 = (L2 : Int)) (d3 : decode cc t = .ok (.iconst 0, 1)) (e3 : t + 1 = L2) (k : xW G E nL mc ms h L2 L (.int (bI (decide (x ≤ 0))) :: st)) : xW G E nL mc ms h pc L (.int x :: st) := by
  refine x_if_gt C t d ht (fun c => ?_) (fun c => ?_)
  · refine x_iconst C 0 d3 rfl ?_
    rw [bI_f (p := x ≤ 0) (i_nle c)] at k
    rw [e3]
    exact k
  · refine x_iconst C 1 d1 rfl ?_
    refine x_goto C L2 d2 ht2 ?_
    rw [bI_t (p := x ≤ 0) (i_le c)] at k
    exact k
theorem x_sel_if_le {G : xG} {E : xE} {y : MethodName} {cc : ByteArray} {nL : Nat} {ret : Option FieldType} {hh : xH_} {n mc ms : Nat} {h : xAH} {pc : Nat} {L : List (Nat × Value)} {st : List Value} (C : xC G E y cc nL ret hh n) {x : Int32} {off off2 : Int} (t L2 : Nat) (d : decode cc pc = .ok (.ifCond .le off, 3)) (ht : (pc : Int) + off = (t : Int)) (d1 : decode cc (pc + 3) = .ok (.iconst 1, 1)) (d2 : decode cc (pc + 4) = .ok (.goto off2, 3)) (ht2 : ((pc + 4 : Nat) : Int) + off2 = (L2 : Int)) (d3 : decode cc t = .ok (.iconst 0, 1)) (e3 : t + 1 = L2) (k : xW G E nL mc ms h L2 L (.int (bI (decide (0 < x))) :: st)) : xW G E nL mc ms h pc L (.int x :: st) := by
  refine x_if_le C t d ht (fun c => ?_) (fun c => ?_)
  · refine x_iconst C 0 d3 rfl ?_
    rw [bI_f (p := 0 < x) (i_nlt c)] at k
    rw [e3]
    exact k
  · refine x_iconst C 1 d1 rfl ?_
    refine x_goto C L2 d2 ht2 ?_
    rw [bI_t (p := 0 < x) (i_lt c)] at k
    exact k
