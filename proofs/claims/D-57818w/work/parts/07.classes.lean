def TXO : u_T := fun _ => ("", "", "", false)
def TXK : u_T := fun _ => ("java/lang/Enum", "ordinal", "I", true)
def xcl : List vw_C := [(RX1, TX1, 9), (RX2, TX2, 20), (RX3, TX3, 8), (RX4, TX4, 2), (RX5, TX5, 9), (RX6, TX6, 4), (RX7, TX7, 33), (RX9, TX9, 8), (RX10, TX10, 8), (RX11, TX11, 10), (RX12, TX12, 2), (RX13, TX13, 2), (RX14, TX14, 3), (RX15, TX15, 7), (RX17, TX17, 4), (RJ1, TJ1, 3), (RJ4, TJ4, 12), (RJ7, TJ7, 1), (RJ36, TJ36, 6), (RJ30, TJ30, 3), (RJ32, TJ32, 4), (RJ34, TJ34, 3), (RJ45, TJ45, 5), (RJ42, TJ42, 4), (RJ33, TJ33, 3), (RJ13, TJ13, 4), (RJ14, TJ14, 4), ("java/lang/IndexOutOfBoundsException", TXO, 0), ("java/lang/IllegalArgumentException", TXO, 0), ("java/lang/IllegalStateException", TXO, 0), ("java/util/NoSuchElementException", TXO, 0), ("java/lang/Object", TXO, 0), ("RoseGuild$Kind", TXK, 1), ("RoseGuild$TokenKind", TXK, 1)]
def xty : List FieldType := [.int, .byte, .long, .double, .boolean, .char, .object "java/lang/Object", .object "RoseGuild$Guild", .object "java/util/HashMap$Node"]
def xsf : List (String × String × String) := [("RoseGuild", "DEPOT", "LRoseGuild$Point;"), ("RoseGuild$Kind", "INDEX", "LRoseGuild$Kind;"), ("RoseGuild$Kind", "ARGUMENT", "LRoseGuild$Kind;"), ("RoseGuild$Kind", "STATE", "LRoseGuild$Kind;"), ("RoseGuild$TokenKind", "END", "LRoseGuild$TokenKind;"), ("RoseGuild$TokenKind", "WORD", "LRoseGuild$TokenKind;"), ("RoseGuild$TokenKind", "NUMBER", "LRoseGuild$TokenKind;"), ("RoseGuild$TokenKind", "SIGN", "LRoseGuild$TokenKind;"), ("java/util/ArrayList", "DEFAULTCAPACITY_EMPTY_ELEMENTDATA", "[Ljava/lang/Object;"), ("java/util/HashSet", "PRESENT", "Ljava/lang/Object;"), ("java/lang/String", "COMPACT_STRINGS", "Z"), ("java/util/BitSet", "$assertionsDisabled", "Z"), ("java/lang/Integer", "DigitTens", "[B"), ("java/lang/Integer", "DigitOnes", "[B"), ("java/lang/Throwable", "UNASSIGNED_STACK", "[Ljava/lang/StackTraceElement;"), ("java/lang/Throwable", "SUPPRESSED_SENTINEL", "Ljava/util/List;"), ("jdk/internal/util/Preconditions", "SIOOBE_FORMATTER", "Ljava/util/function/BiFunction;"), ("jdk/internal/util/Preconditions", "IOOBE_FORMATTER", "Ljava/util/function/BiFunction;")]
def xsr : List (String × Nat × String) := [("RoseGuild", 30, ""), ("RoseGuild", 45, "bow"), ("RoseGuild", 59, "elm"), ("RoseGuild", 61, "oak"), ("RoseGuild", 65, "kew"), ("RoseGuild", 74, "ros"), ("RoseGuild$Guild", 384, "!"), ("RoseGuild$Guild", 386, ""), ("RoseGuild$Parser", 31, ""), ("RoseGuild$ScriptParser", 59, "sign"), ("RoseGuild$ScriptParser", 64, "cancel"), ("RoseGuild$ScriptParser", 66, "pass"), ("RoseGuild$ScriptParser", 68, "wind"), ("RoseGuild$ScriptParser", 70, "price"), ("RoseGuild$ScriptParser", 72, "repeat"), ("RoseGuild$SetupParser", 19, "guild"), ("RoseGuild$SetupParser", 48, "street"), ("RoseGuild$SetupParser", 54, "garden"), ("RoseGuild$SetupParser", 59, "cart"), ("RoseGuild$Single", 23, "sign"), ("RoseGuild$Single", 29, "cancel"), ("RoseGuild$Single", 31, "pass"), ("RoseGuild$Single", 33, "wind"), ("RoseGuildModel", 60, "guild 5 2 9 30 1; street bow 2 1 12 40; street elm 5 1 30 60; street oak 2 4 7 50; garden kew 4 3 9; garden ros 8 1 14; cart 20 3; cart 35 2; cart 10 5;"), ("RoseGuildModel", 250, "street"), ("RoseGuildModel", 263, "garden"), ("RoseGuildModel", 265, "cart"), ("RoseGuildModel", 267, "guild"), ("RoseGuildModel", 285, "sign"), ("RoseGuildModel", 287, "cancel"), ("RoseGuildModel", 289, "pass"), ("RoseGuildModel", 291, "wind"), ("RoseGuildModel", 293, "price"), ("RoseGuildModel", 295, "repeat")]
/-- what is known of a class whose objects are written: its words, its types, its names -/
def xCF (C : String) (T : u_T) (N : Nat) (ty : Nat → FieldType) : Prop := (∀ w ∈ u_ws C T N, w ∈ lw_all) ∧ (∀ k, k < N → parseFieldDescriptor (T k).2.2.1 = some (ty k)) ∧ (∀ a, a < N → ∀ b, b < N → a ≠ b → (T a).2.1 ≠ (T b).2.1 ∨ ((T a).1 ≠ (T b).1 ∧ (T a).2.2.2 = true ∧ (T b).2.2.2 = true))
theorem cfX1 : xCF RX1 TX1 9 tyX1 := ⟨in_X1, tyX1_ok, fun a ha b hb h => Or.inl (nmX1 a ha b hb h)⟩
def zX1 : List Value := [.null, .int 0, .int 0, .int 0, .null, .null, .null, .null, .int 0]
theorem nwX1 : ∀ j, j < 9 → defaultValue (tyX1 j) = vp_V zX1 j := fun j hj => match j, hj with | 0, _ => rfl | 1, _ => rfl | 2, _ => rfl | 3, _ => rfl | 4, _ => rfl | 5, _ => rfl | 6, _ => rfl | 7, _ => rfl | 8, _ => rfl | _ + 9, h => absurd h (by omega)
theorem cfX2 : xCF RX2 TX2 20 tyX2 := ⟨in_X2, tyX2_ok, fun a ha b hb h => Or.inl (nmX2 a ha b hb h)⟩
def zX2 : List Value := [.int 0, .int 0, .int 0, .null, .null, .null, .null, .null, .null, .null, .int 0, .int 0, .int 0, .int 0, .int 0, .int 0, .int 0, .int 0, .int 0, .int 0]
theorem nwX2 : ∀ j, j < 20 → defaultValue (tyX2 j) = vp_V zX2 j := fun j hj => match j, hj with | 0, _ => rfl | 1, _ => rfl | 2, _ => rfl | 3, _ => rfl | 4, _ => rfl | 5, _ => rfl | 6, _ => rfl | 7, _ => rfl | 8, _ => rfl | 9, _ => rfl | 10, _ => rfl | 11, _ => rfl | 12, _ => rfl | 13, _ => rfl | 14, _ => rfl | 15, _ => rfl | 16, _ => rfl | 17, _ => rfl | 18, _ => rfl | 19, _ => rfl | _ + 20, h => absurd h (by omega)
theorem cfX3 : xCF RX3 TX3 8 tyX3 := ⟨in_X3, tyX3_ok, fun a ha b hb h => Or.inl (nmX3 a ha b hb h)⟩
def zX3 : List Value := [.int 0, .int 0, .int 0, .null, .null, .int 0, .int 0, .int 0]
theorem nwX3 : ∀ j, j < 8 → defaultValue (tyX3 j) = vp_V zX3 j := fun j hj => match j, hj with | 0, _ => rfl | 1, _ => rfl | 2, _ => rfl | 3, _ => rfl | 4, _ => rfl | 5, _ => rfl | 6, _ => rfl | 7, _ => rfl | _ + 8, h => absurd h (by omega)
theorem cfX4 : xCF RX4 TX4 2 tyX4 := ⟨in_X4, tyX4_ok, fun a ha b hb h => Or.inl (nmX4 a ha b hb h)⟩
def zX4 : List Value := [.int 0, .int 0]
theorem nwX4 : ∀ j, j < 2 → defaultValue (tyX4 j) = vp_V zX4 j := fun j hj => match j, hj with | 0, _ => rfl | 1, _ => rfl | _ + 2, h => absurd h (by omega)
theorem cfX5 : xCF RX5 TX5 9 tyX5 := ⟨in_X5, tyX5_ok, fun a ha b hb h => Or.inl (nmX5 a ha b hb h)⟩
def zX5 : List Value := [.int 0, .int 0, .null, .null, .int 0, .int 0, .int 0, .int 0, .int 0]
theorem nwX5 : ∀ j, j < 9 → defaultValue (tyX5 j) = vp_V zX5 j := fun j hj => match j, hj with | 0, _ => rfl | 1, _ => rfl | 2, _ => rfl | 3, _ => rfl | 4, _ => rfl | 5, _ => rfl | 6, _ => rfl | 7, _ => rfl | 8, _ => rfl | _ + 9, h => absurd h (by omega)
theorem cfX6 : xCF RX6 TX6 4 tyX6 := ⟨in_X6, tyX6_ok, fun a ha b hb h => Or.inl (nmX6 a ha b hb h)⟩
def zX6 : List Value := [.int 0, .int 0, .int 0, .null]
theorem nwX6 : ∀ j, j < 4 → defaultValue (tyX6 j) = vp_V zX6 j := fun j hj => match j, hj with | 0, _ => rfl | 1, _ => rfl | 2, _ => rfl | 3, _ => rfl | _ + 4, h => absurd h (by omega)
theorem cfX7 : xCF RX7 TX7 33 tyX7 := ⟨in_X7, tyX7_ok, fun a ha b hb h => Or.inl (nmX7 a ha b hb h)⟩
def zX7 : List Value := [.null, .null, .null, .null, .null, .null, .int 0, .int 0, .int 0, .null, .int 0, .int 0, .int 0, .int 0, .int 0, .int 0, .int 0, .int 0, .int 0, .int 0, .int 0, .int 0, .null, .null, .null, .null, .null, .int 0, .int 0, .int 0, .null, .null, .int 0]
theorem nwX7 : ∀ j, j < 33 → defaultValue (tyX7 j) = vp_V zX7 j := fun j hj => match j, hj with | 0, _ => rfl | 1, _ => rfl | 2, _ => rfl | 3, _ => rfl | 4, _ => rfl | 5, _ => rfl | 6, _ => rfl | 7, _ => rfl | 8, _ => rfl | 9, _ => rfl | 10, _ => rfl | 11, _ => rfl | 12, _ => rfl | 13, _ => rfl | 14, _ => rfl | 15, _ => rfl | 16, _ => rfl | 17, _ => rfl | 18, _ => rfl | 19, _ => rfl | 20, _ => rfl | 21, _ => rfl | 22, _ => rfl | 23, _ => rfl | 24, _ => rfl | 25, _ => rfl | 26, _ => rfl | 27, _ => rfl | 28, _ => rfl | 29, _ => rfl | 30, _ => rfl | 31, _ => rfl | 32, _ => rfl | _ + 33, h => absurd h (by omega)
theorem cfX9 : xCF RX9 TX9 8 tyX9 := ⟨in_X9, tyX9_ok, by decide +kernel⟩
def zX9 : List Value := [.int 0, .int 0, .int 0, .int 0, .null, .null, .null, .null]
theorem nwX9 : ∀ j, j < 8 → defaultValue (tyX9 j) = vp_V zX9 j := fun j hj => match j, hj with | 0, _ => rfl | 1, _ => rfl | 2, _ => rfl | 3, _ => rfl | 4, _ => rfl | 5, _ => rfl | 6, _ => rfl | 7, _ => rfl | _ + 8, h => absurd h (by omega)
theorem cfX10 : xCF RX10 TX10 8 tyX10 := ⟨in_X10, tyX10_ok, fun a ha b hb h => Or.inl (nmX10 a ha b hb h)⟩
def zX10 : List Value := [.null, .null, .null, .null, .null, .int 0, .int 0, .int 0]
theorem nwX10 : ∀ j, j < 8 → defaultValue (tyX10 j) = vp_V zX10 j := fun j hj => match j, hj with | 0, _ => rfl | 1, _ => rfl | 2, _ => rfl | 3, _ => rfl | 4, _ => rfl | 5, _ => rfl | 6, _ => rfl | 7, _ => rfl | _ + 8, h => absurd h (by omega)
theorem cfX11 : xCF RX11 TX11 10 tyX11 := ⟨in_X11, tyX11_ok, by decide +kernel⟩
def zX11 : List Value := [.int 0, .int 0, .int 0, .int 0, .null, .null, .null, .int 0, .int 0, .null]
theorem nwX11 : ∀ j, j < 10 → defaultValue (tyX11 j) = vp_V zX11 j := fun j hj => match j, hj with | 0, _ => rfl | 1, _ => rfl | 2, _ => rfl | 3, _ => rfl | 4, _ => rfl | 5, _ => rfl | 6, _ => rfl | 7, _ => rfl | 8, _ => rfl | 9, _ => rfl | _ + 10, h => absurd h (by omega)
theorem cfX12 : xCF RX12 TX12 2 tyX12 := ⟨in_X12, tyX12_ok, fun a ha b hb h => Or.inl (nmX12 a ha b hb h)⟩
def zX12 : List Value := [.null, .int 0]
theorem nwX12 : ∀ j, j < 2 → defaultValue (tyX12 j) = vp_V zX12 j := fun j hj => match j, hj with | 0, _ => rfl | 1, _ => rfl | _ + 2, h => absurd h (by omega)
theorem cfX13 : xCF RX13 TX13 2 tyX13 := ⟨in_X13, tyX13_ok, fun a ha b hb h => Or.inl (nmX13 a ha b hb h)⟩
def zX13 : List Value := [.null, .null]
theorem nwX13 : ∀ j, j < 2 → defaultValue (tyX13 j) = vp_V zX13 j := fun j hj => match j, hj with | 0, _ => rfl | 1, _ => rfl | _ + 2, h => absurd h (by omega)
theorem cfX14 : xCF RX14 TX14 3 tyX14 := ⟨in_X14, tyX14_ok, fun a ha b hb h => Or.inl (nmX14 a ha b hb h)⟩
def zX14 : List Value := [.int 0, .int 0, .int 0]
theorem nwX14 : ∀ j, j < 3 → defaultValue (tyX14 j) = vp_V zX14 j := fun j hj => match j, hj with | 0, _ => rfl | 1, _ => rfl | 2, _ => rfl | _ + 3, h => absurd h (by omega)
theorem cfX15 : xCF RX15 TX15 7 tyX15 := ⟨in_X15, tyX15_ok, fun a ha b hb h => Or.inl (nmX15 a ha b hb h)⟩
def zX15 : List Value := [.null, .null, .null, .null, .null, .int 0, .null]
theorem nwX15 : ∀ j, j < 7 → defaultValue (tyX15 j) = vp_V zX15 j := fun j hj => match j, hj with | 0, _ => rfl | 1, _ => rfl | 2, _ => rfl | 3, _ => rfl | 4, _ => rfl | 5, _ => rfl | 6, _ => rfl | _ + 7, h => absurd h (by omega)
theorem cfX17 : xCF RX17 TX17 4 tyX17 := ⟨in_X17, tyX17_ok, fun a ha b hb h => Or.inl (nmX17 a ha b hb h)⟩
def zX17 : List Value := [.int 0, .int 0, .int 0, .int 0]
theorem nwX17 : ∀ j, j < 4 → defaultValue (tyX17 j) = vp_V zX17 j := fun j hj => match j, hj with | 0, _ => rfl | 1, _ => rfl | 2, _ => rfl | 3, _ => rfl | _ + 4, h => absurd h (by omega)
theorem cfJ1 : xCF RJ1 TJ1 3 tyJ1 := ⟨in_J1, tyJ1_ok, fun a ha b hb h => Or.inl (nmJ1 a ha b hb h)⟩
def zJ1 : List Value := [.null, .int 0, .int 0]
theorem nwJ1 : ∀ j, j < 3 → defaultValue (tyJ1 j) = vp_V zJ1 j := fun j hj => match j, hj with | 0, _ => rfl | 1, _ => rfl | 2, _ => rfl | _ + 3, h => absurd h (by omega)
theorem cfJ4 : xCF RJ4 TJ4 12 tyJ4 := ⟨in_J4, tyJ4_ok, fun a ha b hb h => Or.inl (nmJ4 a ha b hb h)⟩
def zJ4 : List Value := [.null, .null, .int 0, .int 0, .int 0, .float 0, .null, .null, .null, .null, .int 0, .int 0]
theorem nwJ4 : ∀ j, j < 12 → defaultValue (tyJ4 j) = vp_V zJ4 j := fun j hj => match j, hj with | 0, _ => rfl | 1, _ => rfl | 2, _ => rfl | 3, _ => rfl | 4, _ => rfl | 5, _ => rfl | 6, _ => rfl | 7, _ => rfl | 8, _ => rfl | 9, _ => rfl | 10, _ => rfl | 11, _ => rfl | _ + 12, h => absurd h (by omega)
theorem cfJ7 : xCF RJ7 TJ7 1 tyJ7 := ⟨in_J7, tyJ7_ok, fun a ha b hb h => Or.inl (nmJ7 a ha b hb h)⟩
def zJ7 : List Value := [.null]
theorem nwJ7 : ∀ j, j < 1 → defaultValue (tyJ7 j) = vp_V zJ7 j := fun j hj => match j, hj with | 0, _ => rfl | _ + 1, h => absurd h (by omega)
theorem cfJ36 : xCF RJ36 TJ36 6 tyJ36 := ⟨in_J36, tyJ36_ok, fun a ha b hb h => Or.inl (nmJ36 a ha b hb h)⟩
def zJ36 : List Value := [.int 0, .null, .null, .null, .null, .null]
theorem nwJ36 : ∀ j, j < 6 → defaultValue (tyJ36 j) = vp_V zJ36 j := fun j hj => match j, hj with | 0, _ => rfl | 1, _ => rfl | 2, _ => rfl | 3, _ => rfl | 4, _ => rfl | 5, _ => rfl | _ + 6, h => absurd h (by omega)
theorem cfJ30 : xCF RJ30 TJ30 3 tyJ30 := ⟨in_J30, tyJ30_ok, fun a ha b hb h => Or.inl (nmJ30 a ha b hb h)⟩
def zJ30 : List Value := [.int 0, .null, .int 0]
theorem nwJ30 : ∀ j, j < 3 → defaultValue (tyJ30 j) = vp_V zJ30 j := fun j hj => match j, hj with | 0, _ => rfl | 1, _ => rfl | 2, _ => rfl | _ + 3, h => absurd h (by omega)
theorem cfJ32 : xCF RJ32 TJ32 4 tyJ32 := ⟨in_J32, tyJ32_ok, fun a ha b hb h => Or.inl (nmJ32 a ha b hb h)⟩
def zJ32 : List Value := [.int 0, .int 0, .null, .null]
theorem nwJ32 : ∀ j, j < 4 → defaultValue (tyJ32 j) = vp_V zJ32 j := fun j hj => match j, hj with | 0, _ => rfl | 1, _ => rfl | 2, _ => rfl | 3, _ => rfl | _ + 4, h => absurd h (by omega)
theorem cfJ34 : xCF RJ34 TJ34 3 tyJ34 := ⟨in_J34, tyJ34_ok, fun a ha b hb h => Or.inl (nmJ34 a ha b hb h)⟩
def zJ34 : List Value := [.null, .null, .null]
theorem nwJ34 : ∀ j, j < 3 → defaultValue (tyJ34 j) = vp_V zJ34 j := fun j hj => match j, hj with | 0, _ => rfl | 1, _ => rfl | 2, _ => rfl | _ + 3, h => absurd h (by omega)
theorem cfJ45 : xCF RJ45 TJ45 5 tyJ45 := ⟨in_J45, tyJ45_ok, fun a ha b hb h => Or.inl (nmJ45 a ha b hb h)⟩
def zJ45 : List Value := [.null, .null, .int 0, .int 0, .null]
theorem nwJ45 : ∀ j, j < 5 → defaultValue (tyJ45 j) = vp_V zJ45 j := fun j hj => match j, hj with | 0, _ => rfl | 1, _ => rfl | 2, _ => rfl | 3, _ => rfl | 4, _ => rfl | _ + 5, h => absurd h (by omega)
theorem cfJ42 : xCF RJ42 TJ42 4 tyJ42 := ⟨in_J42, tyJ42_ok, fun a ha b hb h => Or.inl (nmJ42 a ha b hb h)⟩
def zJ42 : List Value := [.int 0, .int 0, .int 0, .null]
theorem nwJ42 : ∀ j, j < 4 → defaultValue (tyJ42 j) = vp_V zJ42 j := fun j hj => match j, hj with | 0, _ => rfl | 1, _ => rfl | 2, _ => rfl | 3, _ => rfl | _ + 4, h => absurd h (by omega)
theorem cfJ33 : xCF RJ33 TJ33 3 tyJ33 := ⟨in_J33, tyJ33_ok, fun a ha b hb h => Or.inl (nmJ33 a ha b hb h)⟩
def zJ33 : List Value := [.null, .int 0, .int 0]
theorem nwJ33 : ∀ j, j < 3 → defaultValue (tyJ33 j) = vp_V zJ33 j := fun j hj => match j, hj with | 0, _ => rfl | 1, _ => rfl | 2, _ => rfl | _ + 3, h => absurd h (by omega)
theorem cfJ13 : xCF RJ13 TJ13 4 tyJ13 := ⟨in_J13, tyJ13_ok, fun a ha b hb h => Or.inl (nmJ13 a ha b hb h)⟩
def zJ13 : List Value := [.null, .int 0, .int 0, .int 0]
theorem nwJ13 : ∀ j, j < 4 → defaultValue (tyJ13 j) = vp_V zJ13 j := fun j hj => match j, hj with | 0, _ => rfl | 1, _ => rfl | 2, _ => rfl | 3, _ => rfl | _ + 4, h => absurd h (by omega)
theorem cfJ14 : xCF RJ14 TJ14 4 tyJ14 := ⟨in_J14, tyJ14_ok, fun a ha b hb h => Or.inl (nmJ14 a ha b hb h)⟩
def zJ14 : List Value := [.null, .int 0, .int 0, .int 0]
theorem nwJ14 : ∀ j, j < 4 → defaultValue (tyJ14 j) = vp_V zJ14 j := fun j hj => match j, hj with | 0, _ => rfl | 1, _ => rfl | 2, _ => rfl | 3, _ => rfl | _ + 4, h => absurd h (by omega)
