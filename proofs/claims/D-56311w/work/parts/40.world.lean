/-! the constants of the launch that the classes read, and the smallest methods of the library -/
set_option maxRecDepth 100000
/-- the launch's constants: ArrayList's empty array; the cache of Integers; the Integer of a number; TreeSet's PRESENT; Throwable's two; a String constant's object by its text; Integer's two tables of digits -/
abbrev c_W : Type := Nat × Nat × (Nat → Nat) × Nat × Value × Value × (String → Nat) × Nat × Nat
abbrev c_E (W : c_W) : Nat := W.1
abbrev c_I (W : c_W) : Nat := W.2.1
abbrev c_i (W : c_W) : Nat → Nat := W.2.2.1
abbrev c_P (W : c_W) : Nat := W.2.2.2.1
abbrev c_U (W : c_W) : Value := W.2.2.2.2.1
abbrev c_V (W : c_W) : Value := W.2.2.2.2.2.1
abbrev c_S (W : c_W) : String → Nat := W.2.2.2.2.2.2.1
abbrev c_O (W : c_W) : Nat := W.2.2.2.2.2.2.2.1
abbrev c_T (W : c_W) : Nat := W.2.2.2.2.2.2.2.2
/-- the bytes of a text -/
def c_by (t : List Char) : List Value := t.map fun c => .int (nI c.toNat)
/-- a String at a: its bytes lie at b -/
def sT (a b : Nat) (t : List Char) (h : g_P) : Prop := (∃ x y : Int32, h a = some (g_ob 21 [.ref b, .int (nI 0), .int x, .int y])) ∧ h b = some (g_ar 4 (c_by t))
/-- the String constants -/
def lw_strs : List (String × Nat × String) := [("DoughLedger", 53, ""), ("DoughLedger", 353, "="), ("DoughLedger$Bakery", 230, ""), ("DoughLedger$Bakery", 252, " "), ("DoughLedger$Bowl", 23, "/"), ("DoughLedger$Fraction", 48, "/"), ("DoughLedger$Parser", 54, " dough mix bowl loaf sell scale round pour empty bake ovens "), ("DoughLedger$Parser", 56, " "), ("DoughLedger$Parser", 83, "dough"), ("DoughLedger$Parser", 89, "bowl"), ("DoughLedger$Parser", 91, "loaf"), ("DoughLedger$Parser", 93, "round"), ("DoughLedger$Parser", 95, "mix"), ("DoughLedger$Parser", 97, "pour"), ("DoughLedger$Parser", 138, "sell"), ("DoughLedger$Parser", 140, "scale"), ("DoughLedger$Parser", 142, "empty"), ("DoughLedger$Parser", 144, "bake"), ("java/lang/ArrayIndexOutOfBoundsException", 13, "Array index out of range: "), ("java/lang/String", 1005, "null"), ("java/lang/StringIndexOutOfBoundsException", 13, "String index out of range: "), ("java/lang/Throwable", 81, ": "), ("java/util/ArrayDeque", 35, "Sorry, deque too big"), ("java/util/ArrayList", 201, "Index: "), ("java/util/ArrayList", 203, ", Size: "), ("java/util/Arrays", 48, "fromIndex("), ("java/util/Arrays", 57, ") > toIndex("), ("java/util/Arrays", 59, ")"), ("java/util/Arrays", 337, " > "), ("java/util/LinkedList", 100, "Index: "), ("java/util/LinkedList", 109, ", Size: "), ("jdk/internal/util/ArraysSupport", 92, "unrecognized basic type: ")]
def cOK (K : g_K) (W : c_W) : Prop :=
  (("java/util/ArrayList", "DEFAULTCAPACITY_EMPTY_ELEMENTDATA", "[Ljava/lang/Object;", Value.ref (c_E W)) ∈ k_s K ∧ c_E W < k_b K ∧ k_p K (c_E W) = some (g_ar 5 [])) ∧
  (("java/lang/Integer$IntegerCache", "high", "I", Value.int (nI 127)) ∈ k_s K ∧ ("java/lang/Integer$IntegerCache", "cache", "[Ljava/lang/Integer;", Value.ref (c_I W)) ∈ k_s K ∧ c_I W < k_b K ∧ ∃ vs : List Value, k_p K (c_I W) = some (g_ar 6 vs) ∧ vs.length = 256 ∧ ∀ i, i < 128 → vs[128 + i]? = some (.ref (c_i W i)) ∧ c_i W i < k_b K ∧ k_p K (c_i W i) = some (g_ob 23 [.int (nI i)])) ∧
  (("java/util/TreeSet", "PRESENT", "Ljava/lang/Object;", Value.ref (c_P W)) ∈ k_s K ∧ c_P W < k_b K ∧ k_p K (c_P W) = some (g_ob 43 [])) ∧
  (("java/lang/Throwable", "UNASSIGNED_STACK", "[Ljava/lang/StackTraceElement;", c_U W) ∈ k_s K ∧ (c_U W = .null ∨ ∃ a, c_U W = .ref a) ∧ ("java/lang/Throwable", "SUPPRESSED_SENTINEL", "Ljava/util/List;", c_V W) ∈ k_s K ∧ (c_V W = .null ∨ ∃ a, c_V W = .ref a)) ∧
  (("java/lang/String", "COMPACT_STRINGS", "Z", Value.int (nI 1)) ∈ k_s K) ∧
  (∀ z ∈ lw_strs, (z.1, z.2.1, z.2.2, c_S W z.2.2) ∈ k_t K ∧ c_S W z.2.2 < k_b K ∧ ∃ b, b < k_b K ∧ sT (c_S W z.2.2) b z.2.2.toList (k_p K)) ∧
  (("java/lang/Integer", "DigitOnes", "[B", Value.ref (c_O W)) ∈ k_s K ∧ c_O W < k_b K ∧ k_p K (c_O W) = some (g_ar 4 ((List.range 100).map fun i => .int (nI (48 + i % 10)))) ∧
    ("java/lang/Integer", "DigitTens", "[B", Value.ref (c_T W)) ∈ k_s K ∧ c_T W < k_b K ∧ k_p K (c_T W) = some (g_ar 4 ((List.range 100).map fun i => .int (nI (48 + i / 10)))))
section
variable {K : g_K} {W : c_W} {h : g_P} {n : Nat}
theorem cOK.E (w : cOK K W) (f : ∀ a : Nat, a < k_b K → h a = k_p K a) : h (c_E W) = some (g_ar 5 []) := by rw [f _ w.1.2.1]; exact w.1.2.2
theorem cOK.I (w : cOK K W) (f : ∀ a : Nat, a < k_b K → h a = k_p K a) : ∃ vs : List Value, h (c_I W) = some (g_ar 6 vs) ∧ vs.length = 256 ∧ ∀ i, i < 128 → vs[128 + i]? = some (.ref (c_i W i)) := by
  obtain ⟨-, ⟨-, -, h1, vs, h2, h3, h4⟩, -⟩ := w
  exact ⟨vs, by rw [f _ h1]; exact h2, h3, fun i hi => (h4 i hi).1⟩
theorem cOK.i (w : cOK K W) (f : ∀ a : Nat, a < k_b K → h a = k_p K a) {i : Nat} (hi : i < 128) : h (c_i W i) = some (g_ob 23 [.int (nI i)]) := by
  obtain ⟨-, ⟨-, -, h1, vs, h2, h3, h4⟩, -⟩ := w
  rw [f _ (h4 i hi).2.1]
  exact (h4 i hi).2.2
theorem cOK.i_lt (w : cOK K W) {i : Nat} (hi : i < 128) : c_i W i < k_b K := by
  obtain ⟨-, ⟨-, -, h1, vs, h2, h3, h4⟩, -⟩ := w
  exact (h4 i hi).2.1
theorem cOK.i_inj (w : cOK K W) {i j : Nat} (hi : i < 128) (hj : j < 128) (e : c_i W i = c_i W j) : i = j := by
  obtain ⟨-, ⟨-, -, h1, vs, h2, h3, h4⟩, -⟩ := w
  have e1 := (h4 i hi).2.2
  have e2 := (h4 j hj).2.2
  rw [e, e2] at e1
  have : nI j = nI i := by simpa using e1
  exact ((nI_eq (by omega) (by omega)).mp this).symm
theorem cOK.P (w : cOK K W) (f : ∀ a : Nat, a < k_b K → h a = k_p K a) : h (c_P W) = some (g_ob 43 []) := by rw [f _ w.2.2.1.2.1]; exact w.2.2.1.2.2
end
section
variable {K : g_K} {W : c_W} {a : Nat} {h : g_P} {n : Nat}
theorem k_J0_init : g_Met K mJ0_init 1 0 0 [.ref a] h n (gV fun h' n' => h' = h ∧ n' = n) gN := by
  refine g_Met.of (M := mJ0_init) (L := [some (.ref a)]) (by decide +kernel) (Nat.le_of_ble_eq_true rfl) rfl ?_
  refine r_aload0 dJ0_init_0 ?_
  refine r_objInit dJ0_init_1 q216 q200 q201 rfl (by omega) (Nat.le_of_ble_eq_true rfl) ?_
  exact r_return dJ0_init_4 rfl (⟨rfl, rfl⟩)
theorem k_J2_init : g_Met K mJ2_init 1 0 0 [.ref a] h n (gV fun h' n' => h' = h ∧ n' = n) gN := by
  refine g_Met.of (M := mJ2_init) (L := [some (.ref a)]) (by decide +kernel) (Nat.le_of_ble_eq_true rfl) rfl ?_
  refine r_aload0 dJ2_init_0 ?_
  refine r_objInit dJ2_init_1 q253 q200 q201 rfl (by omega) (Nat.le_of_ble_eq_true rfl) ?_
  exact r_return dJ2_init_4 rfl (⟨rfl, rfl⟩)
theorem k_J23_init : g_Met K mJ23_init 2 0 0 [.ref a] h n (gV fun h' n' => h' = h ∧ n' = n) gN := by
  refine g_Met.of (M := mJ23_init) (L := [some (.ref a)]) (by decide +kernel) (Nat.le_of_ble_eq_true rfl) rfl ?_
  refine r_aload0 dJ23_init_0 ?_
  refine r_callI (M' := mJ2_init) _ dJ23_init_1 q1696 q251 rfl rfl rfl (lw_all_tbl q252) q129 (by exact pl_J2_init)  (k_J2_init) (by omega) (Nat.le_of_ble_eq_true rfl) (by omega) (by omega) rfl (Nat.le_of_ble_eq_true rfl) rfl (kV fun h1 n1 e1 => ?_) kN
  obtain ⟨rfl, rfl, rfl⟩ := e1
  exact r_return dJ23_init_4 rfl (⟨rfl, rfl⟩)
theorem k_J42_init : g_Met K mJ42_init 2 0 0 [.ref a] h n (gV fun h' n' => h' = h ∧ n' = n) gN := by
  refine g_Met.of (M := mJ42_init) (L := [some (.ref a)]) (by decide +kernel) (Nat.le_of_ble_eq_true rfl) rfl ?_
  refine r_aload0 dJ42_init_0 ?_
  refine r_callI (M' := mJ2_init) _ dJ42_init_1 q858 q251 rfl rfl rfl (lw_all_tbl q252) q129 (by exact pl_J2_init)  (k_J2_init) (by omega) (Nat.le_of_ble_eq_true rfl) (by omega) (by omega) rfl (Nat.le_of_ble_eq_true rfl) rfl (kV fun h1 n1 e1 => ?_) kN
  obtain ⟨rfl, rfl, rfl⟩ := e1
  exact r_return dJ42_init_4 rfl (⟨rfl, rfl⟩)
theorem k_J20_checkIndex {i l : Nat} (h1 : i < l) (h2 : l < 2147483648) : g_Met K mJ20_checkIndex 0 0 0 [.int (nI i), .int (nI l), .null] h n (gI fun r h' n' => r = nI i ∧ h' = h ∧ n' = n) gN := by
  refine g_Met.of (M := mJ20_checkIndex) (L := [some (.int (nI i)), some (.int (nI l)), some (.null)]) (by decide +kernel) (Nat.le_of_ble_eq_true rfl) rfl ?_
  refine r_iload0 dJ20_checkIndex_0 ?_
  refine r_if_ltN (tgt := 9) dJ20_checkIndex_1 (by decide) (by omega) (fun c1 => absurd c1 (by omega)) (fun c1 => ?_)
  refine r_iload0 dJ20_checkIndex_4 ?_
  refine r_iload1 dJ20_checkIndex_5 ?_
  refine r_icmp_ltN (tgt := 16) dJ20_checkIndex_6 (by decide) (by omega) (by omega) (fun c6 => ?_) (fun c6 => absurd c6 (by omega))
  refine r_iload0 dJ20_checkIndex_16 ?_
  exact r_ireturn dJ20_checkIndex_17 rfl rfl (⟨rfl, rfl, rfl⟩)
theorem k_checkIndex {i l : Nat} (h1 : i < l) (h2 : l < 2147483648) : g_Met K mJ22_checkIndex 1 0 0 [.int (nI i), .int (nI l)] h n (gI fun r h' n' => r = nI i ∧ h' = h ∧ n' = n) gN := by
  refine g_Met.of (M := mJ22_checkIndex) (L := [some (.int (nI i)), some (.int (nI l))]) (by decide +kernel) (Nat.le_of_ble_eq_true rfl) rfl ?_
  refine r_iload0 dJ22_checkIndex_0 ?_
  refine r_iload1 dJ22_checkIndex_1 ?_
  refine r_null dJ22_checkIndex_2 ?_
  refine r_callS (M' := mJ20_checkIndex) _ dJ22_checkIndex_3 q477 q478 rfl (lw_all_tbl q479) q153 (by exact pl_J20_checkIndex)  ((k_J20_checkIndex h1 h2)) (by omega) (Nat.le_of_ble_eq_true rfl) (by omega) (by omega) rfl (Nat.le_of_ble_eq_true rfl) rfl (kI fun r3 h3 n3 e3 => ?_) kN
  obtain ⟨rfl, rfl, rfl⟩ := e3
  exact r_ireturn dJ22_checkIndex_6 rfl rfl (⟨rfl, rfl, rfl⟩)
theorem k_requireNonNull : g_Met K mJ22_requireNonNull 0 0 0 [.ref a] h n (gA fun r h' n' => r = .ref a ∧ h' = h ∧ n' = n) gN := by
  refine g_Met.of (M := mJ22_requireNonNull) (L := [some (.ref a)]) (by decide +kernel) (Nat.le_of_ble_eq_true rfl) rfl ?_
  refine r_aload0 dJ22_requireNonNull_0 ?_
  refine r_ifnonnull (tgt := 12) dJ22_requireNonNull_1 (by decide) ?_
  refine r_aload0 dJ22_requireNonNull_12 ?_
  exact r_areturn dJ22_requireNonNull_13 rfl (Or.inl ⟨_, rfl⟩) (Or.inr ⟨_, rfl⟩) (⟨rfl, rfl, rfl⟩)
theorem k_valueOf (w : cOK K W) {i : Nat} (hi : i < 128) : g_Met K mJ14_valueOf 0 0 0 [.int (nI i)] h n (gA fun r h' n' => r = .ref (c_i W i) ∧ h' = h ∧ n' = n) gN := by
  refine g_Met.facts fun f1 f2 f3 => ?_
  obtain ⟨vs, e1, e2, e3⟩ := w.I f3
  refine g_Met.of (M := mJ14_valueOf) (L := [some (.int (nI i))]) (by decide +kernel) (Nat.le_of_ble_eq_true rfl) rfl ?_
  refine r_iload0 dJ14_valueOf_0 ?_
  refine r_bipush (v := (-128)) dJ14_valueOf_1 (by decide) ?_
  refine r_icmp_lt (tgt := 23) dJ14_valueOf_3 (by decide) (fun c3 => absurd c3 ((by rw [Int32.lt_iff_toInt_lt, nI_toInt (by omega), show (-128 : Int32).toInt = -128 from by decide]; omega))) (fun c3 => ?_)
  refine r_iload0 dJ14_valueOf_6 ?_
  refine r_getstatic dJ14_valueOf_7 w.2.1.1 q1780 (Or.inl rfl) ?_
  refine r_icmp_gtN (tgt := 23) dJ14_valueOf_10 (by decide) (by omega) (by omega) (fun c10 => absurd c10 (by omega)) (fun c10 => ?_)
  refine r_getstatic dJ14_valueOf_13 w.2.1.2.1 q1782 (Or.inl rfl) ?_
  refine r_iload0 dJ14_valueOf_16 ?_
  refine r_sipush (v := nI 128) dJ14_valueOf_17 (by decide) ?_
  refine r_iadd dJ14_valueOf_20 (by first | exact nI_add _ _ | rfl) ?_
  refine r_aaload (i + 128) dJ14_valueOf_21 ga_N rfl e1 rfl (by omega) (by rw [Nat.add_comm]; exact e3 i hi) ?_
  exact r_areturn dJ14_valueOf_22 rfl (Or.inl ⟨_, rfl⟩) (Or.inr ⟨_, rfl⟩) (⟨rfl, rfl, rfl⟩)
theorem k_intValue {x : Value} (ho : h a = some (g_ob 23 [x])) {i : Int32} (e : x = .int i) : g_Met K mJ14_intValue 0 0 0 [.ref a] h n (gI fun r h' n' => r = i ∧ h' = h ∧ n' = n) gN := by
  subst e
  refine g_Met.of (M := mJ14_intValue) (L := [some (.ref a)]) (by decide +kernel) (Nat.le_of_ble_eq_true rfl) rfl ?_
  refine r_aload0 dJ14_intValue_0 ?_
  refine f_J14_205_J14 dJ14_intValue_1 (by first | assumption | exact g_us | (rw [g_un (by omega)]; assumption) | (rw [g_un (by omega)]; exact g_us) | (rw [g_un (by omega), g_un (by omega)]; assumption) | (rw [g_un (by omega), g_un (by omega)]; exact g_us) | (rw [g_un (by omega), g_un (by omega), g_un (by omega)]; assumption) | ((repeat (rw [g_un (by omega)])); first | exact g_us | assumption)) ?_
  exact r_ireturn dJ14_intValue_4 rfl rfl (⟨rfl, rfl, rfl⟩)
/-- how two ints lie -/
def cmI (x y : Int32) : Int32 := if x < y then -1 else if x = y then 0 else 1
theorem k_compare {x y : Int32} : g_Met K mJ14_compare 0 0 0 [.int x, .int y] h n (gI fun r h' n' => r = cmI x y ∧ h' = h ∧ n' = n) gN := by
  refine g_Met.of (M := mJ14_compare) (L := [some (.int x), some (.int y)]) (by decide +kernel) (Nat.le_of_ble_eq_true rfl) rfl ?_
  refine r_iload0 dJ14_compare_0 ?_
  refine r_iload1 dJ14_compare_1 ?_
  refine r_icmp_ge (tgt := 9) dJ14_compare_2 (by decide) (fun c2 => ?_) (fun c2 => ?_)
  · refine r_iload0 dJ14_compare_9 ?_
    refine r_iload1 dJ14_compare_10 ?_
    refine r_icmp_ne (tgt := 18) dJ14_compare_11 (by decide) (fun c11 => ?_) (fun c11 => ?_)
    · refine r_iconst (v := nI 1) dJ14_compare_18 (by decide) ?_
      exact r_ireturn dJ14_compare_19 rfl rfl (⟨(by unfold cmI; rw [if_neg (Int32.not_lt.mpr c2), if_neg c11] <;> rfl), rfl, rfl⟩)
    · refine r_iconst (v := nI 0) dJ14_compare_14 (by decide) ?_
      refine r_goto (tgt := 19) dJ14_compare_15 (by decide) ?_
      exact r_ireturn dJ14_compare_19 rfl rfl (⟨(by unfold cmI; rw [if_neg (Int32.not_lt.mpr c2), if_pos c11] <;> rfl), rfl, rfl⟩)
  · refine r_iconst (v := -1) dJ14_compare_5 (by decide) ?_
    refine r_goto (tgt := 19) dJ14_compare_6 (by decide) ?_
    exact r_ireturn dJ14_compare_19 rfl rfl (⟨(by unfold cmI; rw [if_pos (Int32.not_le.mp c2)]), rfl, rfl⟩)
theorem k_J14_compareTo_2 {b : Nat} {x y : Int32} (ho : h a = some (g_ob 23 [.int x])) (h2 : h b = some (g_ob 23 [.int y])) : g_Met K mJ14_compareTo_2 1 0 0 [.ref a, .ref b] h n (gI fun r h' n' => r = cmI x y ∧ h' = h ∧ n' = n) gN := by
  refine g_Met.of (M := mJ14_compareTo_2) (L := [some (.ref a), some (.ref b)]) (by decide +kernel) (Nat.le_of_ble_eq_true rfl) rfl ?_
  refine r_aload0 dJ14_compareTo_2_0 ?_
  refine f_J14_205_J14 dJ14_compareTo_2_1 (by first | assumption | exact g_us | (rw [g_un (by omega)]; assumption) | (rw [g_un (by omega)]; exact g_us) | (rw [g_un (by omega), g_un (by omega)]; assumption) | (rw [g_un (by omega), g_un (by omega)]; exact g_us) | (rw [g_un (by omega), g_un (by omega), g_un (by omega)]; assumption) | ((repeat (rw [g_un (by omega)])); first | exact g_us | assumption)) ?_
  refine r_aload1 dJ14_compareTo_2_4 ?_
  refine f_J14_205_J14 dJ14_compareTo_2_5 (by first | assumption | exact g_us | (rw [g_un (by omega)]; assumption) | (rw [g_un (by omega)]; exact g_us) | (rw [g_un (by omega), g_un (by omega)]; assumption) | (rw [g_un (by omega), g_un (by omega)]; exact g_us) | (rw [g_un (by omega), g_un (by omega), g_un (by omega)]; assumption) | ((repeat (rw [g_un (by omega)])); first | exact g_us | assumption)) ?_
  refine r_callS (M' := mJ14_compare) _ dJ14_compareTo_2_8 q1038 q993 rfl (lw_all_tbl q994) q144 (by exact pl_J14_compare)  (k_compare) (by omega) (Nat.le_of_ble_eq_true rfl) (by omega) (by omega) rfl (Nat.le_of_ble_eq_true rfl) rfl (kI fun r8 h8 n8 e8 => ?_) kN
  obtain ⟨rfl, rfl, rfl⟩ := e8
  exact r_ireturn dJ14_compareTo_2_11 rfl rfl (⟨rfl, rfl, rfl⟩)
theorem k_J14_compareTo {b : Nat} {x y : Int32} (ho : h a = some (g_ob 23 [.int x])) (h2 : h b = some (g_ob 23 [.int y])) : g_Met K mJ14_compareTo 2 0 0 [.ref a, .ref b] h n (gI fun r h' n' => r = cmI x y ∧ h' = h ∧ n' = n) gN := by
  refine g_Met.of (M := mJ14_compareTo) (L := [some (.ref a), some (.ref b)]) (by decide +kernel) (Nat.le_of_ble_eq_true rfl) rfl ?_
  refine r_aload0 dJ14_compareTo_0 ?_
  refine r_aload1 dJ14_compareTo_1 ?_
  refine r_checkcast dJ14_compareTo_2 gc_J14 q1033 (Or.inl rfl) (by first | assumption | exact g_us | (rw [g_un (by omega)]; assumption) | (rw [g_un (by omega)]; exact g_us) | (rw [g_un (by omega), g_un (by omega)]; assumption) | (rw [g_un (by omega), g_un (by omega)]; exact g_us) | (rw [g_un (by omega), g_un (by omega), g_un (by omega)]; assumption) | ((repeat (rw [g_un (by omega)])); first | exact g_us | assumption)) ?_
  refine r_callV (M' := mJ14_compareTo_2) _ dJ14_compareTo_5 q1034 q1035 q1036 rfl (lw_all_tbl q1037) q144 (by exact pl_J14_compareTo_2) gc_J14 (by first | assumption | exact g_us | (rw [g_un (by omega)]; assumption) | (rw [g_un (by omega)]; exact g_us) | (rw [g_un (by omega), g_un (by omega)]; assumption) | (rw [g_un (by omega), g_un (by omega)]; exact g_us) | (rw [g_un (by omega), g_un (by omega), g_un (by omega)]; assumption) | ((repeat (rw [g_un (by omega)])); first | exact g_us | assumption)) ((k_J14_compareTo_2 ho h2)) (by omega) (Nat.le_of_ble_eq_true rfl) (by omega) (by omega) rfl (Nat.le_of_ble_eq_true rfl) rfl (kI fun r5 h5 n5 e5 => ?_) kN
  obtain ⟨rfl, rfl, rfl⟩ := e5
  exact r_ireturn dJ14_compareTo_8 rfl rfl (⟨rfl, rfl, rfl⟩)
theorem k_max {x y : Nat} (hx : x < 2147483648) (hy : y < 2147483648) : g_Met K mJ16_max 0 0 0 [.int (nI x), .int (nI y)] h n (gI fun r h' n' => r = nI (max x y) ∧ h' = h ∧ n' = n) gN := by
  refine g_Met.of (M := mJ16_max) (L := [some (.int (nI x)), some (.int (nI y))]) (by decide +kernel) (Nat.le_of_ble_eq_true rfl) rfl ?_
  refine r_iload0 dJ16_max_0 ?_
  refine r_iload1 dJ16_max_1 ?_
  refine r_icmp_ltN (tgt := 9) dJ16_max_2 (by decide) (by omega) (by omega) (fun c2 => ?_) (fun c2 => ?_)
  · refine r_iload1 dJ16_max_9 ?_
    exact r_ireturn dJ16_max_10 rfl rfl (⟨by rw [Nat.max_eq_right (by omega)], rfl, rfl⟩)
  · refine r_iload0 dJ16_max_5 ?_
    refine r_goto (tgt := 10) dJ16_max_6 (by decide) ?_
    exact r_ireturn dJ16_max_10 rfl rfl (⟨by rw [Nat.max_eq_left (by omega)], rfl, rfl⟩)
theorem k_min {x y : Nat} (hx : x < 2147483648) (hy : y < 2147483648) : g_Met K mJ16_min 0 0 0 [.int (nI x), .int (nI y)] h n (gI fun r h' n' => r = nI (min x y) ∧ h' = h ∧ n' = n) gN := by
  refine g_Met.of (M := mJ16_min) (L := [some (.int (nI x)), some (.int (nI y))]) (by decide +kernel) (Nat.le_of_ble_eq_true rfl) rfl ?_
  refine r_iload0 dJ16_min_0 ?_
  refine r_iload1 dJ16_min_1 ?_
  refine r_icmp_gtN (tgt := 9) dJ16_min_2 (by decide) (by omega) (by omega) (fun c2 => ?_) (fun c2 => ?_)
  · refine r_iload1 dJ16_min_9 ?_
    exact r_ireturn dJ16_min_10 rfl rfl (⟨by rw [Nat.min_eq_right (by omega)], rfl, rfl⟩)
  · refine r_iload0 dJ16_min_5 ?_
    refine r_goto (tgt := 10) dJ16_min_6 (by decide) ?_
    exact r_ireturn dJ16_min_10 rfl rfl (⟨by rw [Nat.min_eq_left (by omega)], rfl, rfl⟩)
end
