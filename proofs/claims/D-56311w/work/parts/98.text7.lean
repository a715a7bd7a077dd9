/-! Strings: hashCode, charAt; a builder emptied; a builder of an object's text -/
set_option maxRecDepth 100000
def hsN (S : List Nat) : Nat → Int32
  | 0 => nI 0
  | k + 1 => nI 31 * hsN S k + nI (S.getD k 0)
/-- a String whose hash has not been asked for, or has been -/
def strH (a b : Nat) (S : List Nat) (h : g_P) : Prop := (h a = some (g_ob 21 [.ref b, .int (nI 0), .int (nI 0), .int (nI 0)]) ∨ h a = some (g_ob 21 [.ref b, .int (nI 0), .int (hsN S S.length), .int (nI 0)])) ∧ h b = some (g_ar 4 (byt S)) ∧ ∀ c ∈ S, c < 128
theorem strH.str {a b : Nat} {S : List Nat} {h : g_P} (t : strH a b S h) : strT a b S h := by
  obtain ⟨t1 | t1, t2⟩ := t
  · exact ⟨⟨_, _, t1⟩, t2⟩
  · exact ⟨⟨_, _, t1⟩, t2⟩
theorem strH.of {a b : Nat} {S : List Nat} {h h' : g_P} (t : strH a b S h) (e1 : h' a = h a) (e2 : h' b = h b) : strH a b S h' := by
  obtain ⟨t1, t2, t3⟩ := t
  exact ⟨t1.imp e1.trans e1.trans, e2.trans t2, t3⟩
/-- the formatter that String.checkIndex hands on -/
def cF (K : g_K) : Prop := ("jdk/internal/util/Preconditions", "SIOOBE_FORMATTER", "Ljava/util/function/BiFunction;", Value.null) ∈ k_s K ∨ ∃ f : Nat, ("jdk/internal/util/Preconditions", "SIOOBE_FORMATTER", "Ljava/util/function/BiFunction;", Value.ref f) ∈ k_s K
theorem and255 : ∀ c, c < 128 → nI c &&& nI 255 = nI c := by decide +kernel
section
variable {K : g_K} {W : c_W} {s e cap n n0 a b : Nat} {T S : List Nat} {h h0 : g_P}
theorem k_signedHash (hS : h b = some (g_ar 4 (byt S))) (cS : ∀ c ∈ S, c < 128) (hl : S.length < 1000) : g_Met K mJ17_signedHashCode 0 0 0 [.int (nI 0), .ref b, .int (nI 0), .int (nI S.length)] h n (gI fun r h' n' => r = hsN S S.length ∧ h' = h ∧ n' = n) gN := by
  have loop : ∀ (g j : Nat), j + g = S.length → g_G K mJ17_signedHashCode 0 0 0 (gI fun r h' n' => r = hsN S S.length ∧ h' = h ∧ n' = n) gN 8 [some (.int (hsN S j)), some (.ref b), some (.int (nI 0)), some (.int (nI S.length)), some (.int (nI S.length)), some (.int (nI j))] [] h n := by
    intro g
    induction g with
    | zero =>
      intro j hj
      have : j = S.length := by omega
      subst this
      refine r_iload5 dJ17_signedHashCode_8 ?_
      refine r_iload4 dJ17_signedHashCode_10 ?_
      refine r_icmp_geN (tgt := 35) dJ17_signedHashCode_12 (by decide) (by omega) (by omega) (fun c12 => ?_) (fun c12 => absurd c12 (by omega))
      refine r_iload0 dJ17_signedHashCode_35 ?_
      exact r_ireturn dJ17_signedHashCode_36 rfl rfl (⟨rfl, rfl, rfl⟩)
    | succ g ih =>
      intro j hj
      refine r_iload5 dJ17_signedHashCode_8 ?_
      refine r_iload4 dJ17_signedHashCode_10 ?_
      refine r_icmp_geN (tgt := 35) dJ17_signedHashCode_12 (by decide) (by omega) (by omega) (fun c12 => absurd c12 (by omega)) (fun c12 => ?_)
      refine r_bipush (v := nI 31) dJ17_signedHashCode_15 (by decide) ?_
      refine r_iload0 dJ17_signedHashCode_17 ?_
      refine r_imul dJ17_signedHashCode_18 rfl ?_
      refine r_aload1 dJ17_signedHashCode_19 ?_
      refine r_iload5 dJ17_signedHashCode_20 ?_
      refine r_baload (j) dJ17_signedHashCode_22 hS rfl (by omega) (getD_at (by omega)) ?_
      refine r_sipush (v := nI 255) dJ17_signedHashCode_23 (by decide) ?_
      refine r_iand dJ17_signedHashCode_26 (and255 _ (getD_lt cS)) ?_
      refine r_iadd dJ17_signedHashCode_27 rfl ?_
      refine r_istore0 dJ17_signedHashCode_28 ?_
      refine r_iinc5 dJ17_signedHashCode_29 (ii1 _) ?_
      refine r_goto (tgt := 8) dJ17_signedHashCode_32 (by decide) ?_
      exact ih (j + 1) (by omega)
  refine g_Met.of (M := mJ17_signedHashCode) (L := [some (.int (nI 0)), some (.ref b), some (.int (nI 0)), some (.int (nI S.length)), none, none]) (by decide +kernel) (Nat.le_of_ble_eq_true rfl) rfl ?_
  refine r_iload2 dJ17_signedHashCode_0 ?_
  refine r_iload3 dJ17_signedHashCode_1 ?_
  refine r_iadd dJ17_signedHashCode_2 (show _ = nI S.length by rw [nI_add, Nat.zero_add]) ?_
  refine r_istore4 dJ17_signedHashCode_3 ?_
  refine r_iload2 dJ17_signedHashCode_5 ?_
  refine r_istore5 dJ17_signedHashCode_6 ?_
  exact loop S.length 0 (by omega)
theorem k_vecHash (hS : h b = some (g_ar 4 (byt S))) (cS : ∀ c ∈ S, c < 128) (hl : S.length < 1000) : g_Met K mJ17_vectorizedHashCode 1 0 0 [.ref b, .int (nI 0), .int (nI S.length), .int (nI 0), .int (nI 4)] h n (gI fun r h' n' => r = hsN S S.length ∧ h' = h ∧ n' = n) gN := by
  refine g_Met.of (M := mJ17_vectorizedHashCode) (L := [some (.ref b), some (.int (nI 0)), some (.int (nI S.length)), some (.int (nI 0)), some (.int (nI 4))]) (by decide +kernel) (Nat.le_of_ble_eq_true rfl) rfl ?_
  refine r_iload4 dJ17_vectorizedHashCode_0 ?_
  rcases (rfl : (4 : Nat) = 4) with e2
  · skip
    refine r_tableIn (off := 42) (tgt := 44) dJ17_vectorizedHashCode_2 (by decide +kernel) (by decide +kernel) (by decide +kernel) (by decide) ?_
    refine r_iload3 dJ17_vectorizedHashCode_44 ?_
    refine r_aload0 dJ17_vectorizedHashCode_45 ?_
    refine r_checkcastA dJ17_vectorizedHashCode_46 q3079 hS ?_
    refine r_iload1 dJ17_vectorizedHashCode_49 ?_
    refine r_iload2 dJ17_vectorizedHashCode_50 ?_
    refine r_callS (M' := mJ17_signedHashCode) _ dJ17_vectorizedHashCode_51 q3080 q3081 rfl (lw_all_tbl q3082) q149 (by exact pl_J17_signedHashCode)  ((k_signedHash hS cS hl)) (by omega) (Nat.le_of_ble_eq_true rfl) (by omega) (by omega) rfl (Nat.le_of_ble_eq_true rfl) rfl (kI fun r51 h51 n51 e51 => ?_) kN
    obtain ⟨q9, q8, q7⟩ := e51; have q9 := q9.symm; have q8 := q8.symm; have q7 := q7.symm; subst q9; subst q8; subst q7
    refine r_goto (tgt := 157) dJ17_vectorizedHashCode_54 (by decide) ?_
    exact r_ireturn dJ17_vectorizedHashCode_157 rfl rfl (⟨rfl, rfl, rfl⟩)
theorem k_hashB (hS : h b = some (g_ar 4 (byt S))) (cS : ∀ c ∈ S, c < 128) (hl : S.length = 3 ∨ S.length = 4 ∨ S.length = 5) : g_Met K mJ15_hashCode 2 0 0 [.ref b] h n (gI fun r h' n' => r = hsN S S.length ∧ h' = h ∧ n' = n) gN := by
  have l9 : S.length < 1000 := by omega
  refine g_Met.of (M := mJ15_hashCode) (L := [some (.ref b)]) (by decide +kernel) (Nat.le_of_ble_eq_true rfl) rfl ?_
  refine r_aload0 dJ15_hashCode_0 ?_
  refine r_arraylength dJ15_hashCode_1 ga_B hS (by rw [byt_len]) ?_
  rcases hl with e2 | e2 | e2
  · rw [e2]
    refine r_lookup (off := 40) (tgt := 42) dJ15_hashCode_2 (by decide) (by decide +kernel) (by decide) ?_
    refine r_aload0 dJ15_hashCode_42 ?_
    refine r_iconst (v := nI 0) dJ15_hashCode_43 (by decide) ?_
    refine r_aload0 dJ15_hashCode_44 ?_
    refine r_arraylength dJ15_hashCode_45 ga_B hS (by rw [byt_len]) ?_
    refine r_iconst (v := nI 0) dJ15_hashCode_46 (by decide) ?_
    refine r_iconst (v := nI 4) dJ15_hashCode_47 (by decide) ?_
    refine r_callS (M' := mJ17_vectorizedHashCode) _ dJ15_hashCode_48 q3076 q3077 rfl (lw_all_tbl q3078) q149 (by exact pl_J17_vectorizedHashCode)  ((k_vecHash hS cS l9)) (by omega) (Nat.le_of_ble_eq_true rfl) (by omega) (by omega) rfl (Nat.le_of_ble_eq_true rfl) rfl (kI fun r48 h48 n48 e48 => ?_) kN
    obtain ⟨q9, q8, q7⟩ := e48; have q9 := q9.symm; have q8 := q8.symm; have q7 := q7.symm; subst q9; subst q8; subst q7
    exact r_ireturn dJ15_hashCode_51 rfl rfl (⟨by rw [e2], rfl, rfl⟩)
  · rw [e2]
    refine r_lookup (off := 40) (tgt := 42) dJ15_hashCode_2 (by decide) (by decide +kernel) (by decide) ?_
    refine r_aload0 dJ15_hashCode_42 ?_
    refine r_iconst (v := nI 0) dJ15_hashCode_43 (by decide) ?_
    refine r_aload0 dJ15_hashCode_44 ?_
    refine r_arraylength dJ15_hashCode_45 ga_B hS (by rw [byt_len]) ?_
    refine r_iconst (v := nI 0) dJ15_hashCode_46 (by decide) ?_
    refine r_iconst (v := nI 4) dJ15_hashCode_47 (by decide) ?_
    refine r_callS (M' := mJ17_vectorizedHashCode) _ dJ15_hashCode_48 q3076 q3077 rfl (lw_all_tbl q3078) q149 (by exact pl_J17_vectorizedHashCode)  ((k_vecHash hS cS l9)) (by omega) (Nat.le_of_ble_eq_true rfl) (by omega) (by omega) rfl (Nat.le_of_ble_eq_true rfl) rfl (kI fun r48 h48 n48 e48 => ?_) kN
    obtain ⟨q9, q8, q7⟩ := e48; have q9 := q9.symm; have q8 := q8.symm; have q7 := q7.symm; subst q9; subst q8; subst q7
    exact r_ireturn dJ15_hashCode_51 rfl rfl (⟨by rw [e2], rfl, rfl⟩)
  · rw [e2]
    refine r_lookup (off := 40) (tgt := 42) dJ15_hashCode_2 (by decide) (by decide +kernel) (by decide) ?_
    refine r_aload0 dJ15_hashCode_42 ?_
    refine r_iconst (v := nI 0) dJ15_hashCode_43 (by decide) ?_
    refine r_aload0 dJ15_hashCode_44 ?_
    refine r_arraylength dJ15_hashCode_45 ga_B hS (by rw [byt_len]) ?_
    refine r_iconst (v := nI 0) dJ15_hashCode_46 (by decide) ?_
    refine r_iconst (v := nI 4) dJ15_hashCode_47 (by decide) ?_
    refine r_callS (M' := mJ17_vectorizedHashCode) _ dJ15_hashCode_48 q3076 q3077 rfl (lw_all_tbl q3078) q149 (by exact pl_J17_vectorizedHashCode)  ((k_vecHash hS cS l9)) (by omega) (Nat.le_of_ble_eq_true rfl) (by omega) (by omega) rfl (Nat.le_of_ble_eq_true rfl) rfl (kI fun r48 h48 n48 e48 => ?_) kN
    obtain ⟨q9, q8, q7⟩ := e48; have q9 := q9.symm; have q8 := q8.symm; have q7 := q7.symm; subst q9; subst q8; subst q7
    exact r_ireturn dJ15_hashCode_51 rfl rfl (⟨by rw [e2], rfl, rfl⟩)
theorem k_strHash (w0 : cOK K W) (ha : k_b K ≤ a) (t : strH a b S h) (hl : S.length = 3 ∨ S.length = 4 ∨ S.length = 5) (hne : hsN S S.length ≠ 0) : g_Met K mJ9_hashCode 3 0 0 [.ref a] h n (gI fun r h' n' => r = hsN S S.length ∧ strH a b S h' ∧ (∀ q : Nat, q ≠ a → h' q = h q) ∧ n' = n) gN := by
  have t0 := t
  have ts := t.str
  obtain ⟨t1 | t1, t2, t3⟩ := t
  · have ab : b ≠ a := fun z => by rw [z, t1] at t2; exact obj_arr t2
    refine g_Met.of (M := mJ9_hashCode) (L := [some (.ref a), none]) (by decide +kernel) (Nat.le_of_ble_eq_true rfl) rfl ?_
    refine r_aload0 dJ9_hashCode_0 ?_
    refine f_J9_19_J9 dJ9_hashCode_1 t1 ?_
    refine r_istore1 dJ9_hashCode_4 ?_
    refine r_iload1 dJ9_hashCode_5 ?_
    refine r_if_ne (tgt := 58) dJ9_hashCode_6 (by decide) (fun c6 => absurd c6 ((fun z => z rfl))) (fun c6 => ?_)
    refine r_aload0 dJ9_hashCode_9 ?_
    refine f_J9_23_J9 dJ9_hashCode_10 t1 ?_
    refine r_if_ne (tgt := 58) dJ9_hashCode_13 (by decide) (fun c13 => absurd c13 ((fun z => z rfl))) (fun c13 => ?_)
    refine r_aload0 dJ9_hashCode_16 ?_
    refine r_callV (M' := mJ9_isLatin1) _ dJ9_hashCode_17 q2933 q2934 q2935 rfl (lw_all_tbl q2936) q136 (by exact pl_J9_isLatin1) gc_J9 t1 ((k_isLatin9 w0 ts)) (by omega) (Nat.le_of_ble_eq_true rfl) (by omega) (by omega) rfl (Nat.le_of_ble_eq_true rfl) rfl (kI fun r17 h17 n17 e17 => ?_) kN
    obtain ⟨q9, q8, q7⟩ := e17; have q9 := q9.symm; have q8 := q8.symm; have q7 := q7.symm; subst q9; subst q8; subst q7
    refine r_if_eqN (tgt := 33) dJ9_hashCode_20 (by decide) (by omega) (fun c20 => absurd c20 (by omega)) (fun c20 => ?_)
    refine r_aload0 dJ9_hashCode_23 ?_
    refine f_J9_9_J9 dJ9_hashCode_24 t1 ?_
    refine r_callS (M' := mJ15_hashCode) _ dJ9_hashCode_27 q3073 q3074 rfl (lw_all_tbl q3075) q147 (by exact pl_J15_hashCode)  ((k_hashB t2 t3 hl)) (by omega) (Nat.le_of_ble_eq_true rfl) (by omega) (by omega) rfl (Nat.le_of_ble_eq_true rfl) rfl (kI fun r27 h27 n27 e27 => ?_) kN
    obtain ⟨q9, q8, q7⟩ := e27; have q9 := q9.symm; have q8 := q8.symm; have q7 := q7.symm; subst q9; subst q8; subst q7
    refine r_goto (tgt := 40) dJ9_hashCode_30 (by decide) ?_
    refine r_istore1 dJ9_hashCode_40 ?_
    refine r_iload1 dJ9_hashCode_41 ?_
    refine r_if_ne (tgt := 53) dJ9_hashCode_42 (by decide) (fun c42 => ?_) (fun c42 => absurd c42 hne)
    refine r_aload0 dJ9_hashCode_53 ?_
    refine r_iload1 dJ9_hashCode_54 ?_
    refine p_J9_19_J9 dJ9_hashCode_55 (by omega) t1 ?_
    refine r_iload1 dJ9_hashCode_58 ?_
    exact r_ireturn dJ9_hashCode_59 rfl rfl (⟨rfl, ⟨Or.inr g_us, by rw [g_un ab]; exact t2, t3⟩, fun q hq => g_un hq, rfl⟩)
  · skip
    refine g_Met.of (M := mJ9_hashCode) (L := [some (.ref a), none]) (by decide +kernel) (Nat.le_of_ble_eq_true rfl) rfl ?_
    refine r_aload0 dJ9_hashCode_0 ?_
    refine f_J9_19_J9 dJ9_hashCode_1 t1 ?_
    refine r_istore1 dJ9_hashCode_4 ?_
    refine r_iload1 dJ9_hashCode_5 ?_
    refine r_if_ne (tgt := 58) dJ9_hashCode_6 (by decide) (fun c6 => ?_) (fun c6 => absurd c6 hne)
    refine r_iload1 dJ9_hashCode_58 ?_
    exact r_ireturn dJ9_hashCode_59 rfl rfl (⟨rfl, t0, fun _ _ => rfl, rfl⟩)
theorem k_J20_checkIndex9 {i l : Nat} {v : Value} (hv : v = .null ∨ ∃ f, v = .ref f) (h1 : i < l) (h2 : l < 2147483648) : g_Met K mJ20_checkIndex 0 0 0 [.int (nI i), .int (nI l), v] h n (gI fun r h' n' => r = nI i ∧ h' = h ∧ n' = n) gN := by
  rcases hv with rfl | ⟨f, rfl⟩
  · skip
    refine g_Met.of (M := mJ20_checkIndex) (L := [some (.int (nI i)), some (.int (nI l)), some (.null)]) (by decide +kernel) (Nat.le_of_ble_eq_true rfl) rfl ?_
    refine r_iload0 dJ20_checkIndex_0 ?_
    refine r_if_ltN (tgt := 9) dJ20_checkIndex_1 (by decide) (by omega) (fun c1 => absurd c1 (by omega)) (fun c1 => ?_)
    refine r_iload0 dJ20_checkIndex_4 ?_
    refine r_iload1 dJ20_checkIndex_5 ?_
    refine r_icmp_ltN (tgt := 16) dJ20_checkIndex_6 (by decide) (by omega) (by omega) (fun c6 => ?_) (fun c6 => absurd c6 (by omega))
    refine r_iload0 dJ20_checkIndex_16 ?_
    exact r_ireturn dJ20_checkIndex_17 rfl rfl (⟨rfl, rfl, rfl⟩)
  · skip
    refine g_Met.of (M := mJ20_checkIndex) (L := [some (.int (nI i)), some (.int (nI l)), some (.ref f)]) (by decide +kernel) (Nat.le_of_ble_eq_true rfl) rfl ?_
    refine r_iload0 dJ20_checkIndex_0 ?_
    refine r_if_ltN (tgt := 9) dJ20_checkIndex_1 (by decide) (by omega) (fun c1 => absurd c1 (by omega)) (fun c1 => ?_)
    refine r_iload0 dJ20_checkIndex_4 ?_
    refine r_iload1 dJ20_checkIndex_5 ?_
    refine r_icmp_ltN (tgt := 16) dJ20_checkIndex_6 (by decide) (by omega) (by omega) (fun c6 => ?_) (fun c6 => absurd c6 (by omega))
    refine r_iload0 dJ20_checkIndex_16 ?_
    exact r_ireturn dJ20_checkIndex_17 rfl rfl (⟨rfl, rfl, rfl⟩)
theorem char_nar {c : Nat} (h : c < 128) : narrow .char (.int (nI c)) = .int (nI c) := by
  have : ∀ c, c < 128 → narrow .char (.int (nI c)) = .int (nI c) := by decide +kernel
  exact this c h
theorem k_checkIndex9 {i l : Nat} (wF : cF K) (h1 : i < l) (h2 : l < 2147483648) : g_Met K mJ9_checkIndex 1 0 0 [.int (nI i), .int (nI l)] h n (gV fun h' n' => h' = h ∧ n' = n) gN := by
  refine g_Met.of (M := mJ9_checkIndex) (L := [some (.int (nI i)), some (.int (nI l))]) (by decide +kernel) (Nat.le_of_ble_eq_true rfl) rfl ?_
  rcases wF with wF | ⟨f, wF⟩
  · skip
    refine r_iload0 dJ9_checkIndex_0 ?_
    refine r_iload1 dJ9_checkIndex_1 ?_
    refine r_getstatic dJ9_checkIndex_2 wF q616 (Or.inl rfl) ?_
    refine r_callS (M' := mJ20_checkIndex) _ dJ9_checkIndex_5 q2920 q478 rfl (lw_all_tbl q479) q153 (by exact pl_J20_checkIndex)  ((k_J20_checkIndex9 (Or.inl rfl) h1 h2)) (by omega) (Nat.le_of_ble_eq_true rfl) (by omega) (by omega) rfl (Nat.le_of_ble_eq_true rfl) rfl (kI fun r5 h5 n5 e5 => ?_) kN
    obtain ⟨q9, q8, q7⟩ := e5; have q9 := q9.symm; have q8 := q8.symm; have q7 := q7.symm; subst q9; subst q8; subst q7
    refine r_pop dJ9_checkIndex_8 ?_
    exact r_return dJ9_checkIndex_9 rfl (⟨rfl, rfl⟩)
  · skip
    refine r_iload0 dJ9_checkIndex_0 ?_
    refine r_iload1 dJ9_checkIndex_1 ?_
    refine r_getstatic dJ9_checkIndex_2 wF q616 (Or.inl rfl) ?_
    refine r_callS (M' := mJ20_checkIndex) _ dJ9_checkIndex_5 q2920 q478 rfl (lw_all_tbl q479) q153 (by exact pl_J20_checkIndex)  ((k_J20_checkIndex9 (Or.inr ⟨_, rfl⟩) h1 h2)) (by omega) (Nat.le_of_ble_eq_true rfl) (by omega) (by omega) rfl (Nat.le_of_ble_eq_true rfl) rfl (kI fun r5 h5 n5 e5 => ?_) kN
    obtain ⟨q9, q8, q7⟩ := e5; have q9 := q9.symm; have q8 := q8.symm; have q7 := q7.symm; subst q9; subst q8; subst q7
    refine r_pop dJ9_checkIndex_8 ?_
    exact r_return dJ9_checkIndex_9 rfl (⟨rfl, rfl⟩)
theorem k_charAtB {i : Nat} (wF : cF K) (hS : h b = some (g_ar 4 (byt S))) (cS : ∀ c ∈ S, c < 128) (hi : i < S.length) (hl : S.length < 1000) : g_Met K mJ15_charAt 2 0 0 [.ref b, .int (nI i)] h n (gI fun r h' n' => r = nI (S.getD i 0) ∧ h' = h ∧ n' = n) gN := by
  have lc := getD_lt (j := i) cS
  refine g_Met.of (M := mJ15_charAt) (L := [some (.ref b), some (.int (nI i))]) (by decide +kernel) (Nat.le_of_ble_eq_true rfl) rfl ?_
  refine r_iload1 dJ15_charAt_0 ?_
  refine r_aload0 dJ15_charAt_1 ?_
  refine r_arraylength dJ15_charAt_2 ga_B hS (by rw [byt_len]) ?_
  refine r_callS (M' := mJ9_checkIndex) _ dJ15_charAt_3 q2940 q2918 rfl (lw_all_tbl q2919) q136 (by exact pl_J9_checkIndex)  ((k_checkIndex9 wF hi (by omega))) (by omega) (Nat.le_of_ble_eq_true rfl) (by omega) (by omega) rfl (Nat.le_of_ble_eq_true rfl) rfl (kV fun h3 n3 e3 => ?_) kN
  obtain ⟨q8, q7⟩ := e3; have q8 := q8.symm; have q7 := q7.symm; subst q8; subst q7
  refine r_aload0 dJ15_charAt_6 ?_
  refine r_iload1 dJ15_charAt_7 ?_
  refine r_baload (i) dJ15_charAt_8 hS rfl (by omega) (getD_at hi) ?_
  refine r_sipush (v := nI 255) dJ15_charAt_9 (by decide) ?_
  refine r_iand dJ15_charAt_12 (and255 _ lc) ?_
  refine r_i2c dJ15_charAt_13 (i2c_nI (by omega)) ?_
  exact r_ireturn dJ15_charAt_14 rfl (char_nar lc) ⟨rfl, rfl, rfl⟩
theorem k_charAt {i : Nat} (w0 : cOK K W) (wF : cF K) (t : strT a b S h) (hi : i < S.length) (hl : S.length < 1000) : g_Met K mJ9_charAt 3 0 0 [.ref a, .int (nI i)] h n (gI fun r h' n' => r = nI (S.getD i 0) ∧ h' = h ∧ n' = n) gN := by
  obtain ⟨⟨x, y, t1⟩, t2, t3⟩ := id t
  have lc := getD_lt (j := i) t3
  refine g_Met.of (M := mJ9_charAt) (L := [some (.ref a), some (.int (nI i))]) (by decide +kernel) (Nat.le_of_ble_eq_true rfl) rfl ?_
  refine r_aload0 dJ9_charAt_0 ?_
  refine r_callV (M' := mJ9_isLatin1) _ dJ9_charAt_1 q2933 q2934 q2935 rfl (lw_all_tbl q2936) q136 (by exact pl_J9_isLatin1) gc_J9 t1 ((k_isLatin9 w0 t)) (by omega) (Nat.le_of_ble_eq_true rfl) (by omega) (by omega) rfl (Nat.le_of_ble_eq_true rfl) rfl (kI fun r1 h1 n1 e1 => ?_) kN
  obtain ⟨q9, q8, q7⟩ := e1; have q9 := q9.symm; have q8 := q8.symm; have q7 := q7.symm; subst q9; subst q8; subst q7
  refine r_if_eqN (tgt := 16) dJ9_charAt_4 (by decide) (by omega) (fun c4 => absurd c4 (by omega)) (fun c4 => ?_)
  refine r_aload0 dJ9_charAt_7 ?_
  refine f_J9_9_J9 dJ9_charAt_8 t1 ?_
  refine r_iload1 dJ9_charAt_11 ?_
  refine r_callS (M' := mJ15_charAt) _ dJ9_charAt_12 q2937 q2938 rfl (lw_all_tbl q2939) q147 (by exact pl_J15_charAt)  ((k_charAtB wF t2 t3 hi hl)) (by omega) (Nat.le_of_ble_eq_true rfl) (by omega) (by omega) rfl (Nat.le_of_ble_eq_true rfl) rfl (kI fun r12 h12 n12 e12 => ?_) kN
  obtain ⟨q9, q8, q7⟩ := e12; have q9 := q9.symm; have q8 := q8.symm; have q7 := q7.symm; subst q9; subst q8; subst q7
  exact r_ireturn dJ9_charAt_15 rfl (char_nar lc) ⟨rfl, rfl, rfl⟩
theorem k_J7_setLength (hb : k_b K ≤ s) (t : sbT K s e cap T h) : g_Met K mJ7_setLength 4 1 150 [.ref s, .int (nI 0)] h n (gV fun h' n' => sbP K s e [] h n h' n') gN := by
  refine g_Met.facts fun f1 f2 f3 => ?_
  obtain ⟨ml0, t1⟩ := t.1
  obtain ⟨-, R0, t20, t30, t40, -⟩ := id t
  refine g_Met.of (M := mJ7_setLength) (L := [some (.ref s), some (.int (nI 0))]) (by decide +kernel) (Nat.le_of_ble_eq_true rfl) rfl ?_
  refine r_iload1 dJ7_setLength_0 ?_
  refine r_if_geN (tgt := 13) dJ7_setLength_1 (by decide) (by omega) (fun c1 => ?_) (fun c1 => absurd c1 (by omega))
  refine r_aload0 dJ7_setLength_13 ?_
  refine r_iload1 dJ7_setLength_14 ?_
  refine r_callVP (M' := mJ7_ensureCapacityInternal) _ dJ7_setLength_15 q564 q566 q565 q602 ⟨by decide, by decide⟩ rfl (lw_all_tbl q567) q134 (by exact pl_J7_ensureCapacityInternal) gc_J8 t1 ((k_ensure hb t (by omega))) (by omega) (Nat.le_of_ble_eq_true rfl) (by omega) (by omega) rfl (Nat.le_of_ble_eq_true rfl) rfl (kV fun h15 n15 e15 => ?_) kN
  obtain ⟨e', cap', t', z1, z2, z3, z4, z5, z6⟩ := e15
  have tn' := t'.ne
  obtain ⟨⟨ml, t1'⟩, R, t2, t3, t4, t5, t6⟩ := t'
  refine r_aload0 dJ7_setLength_18 ?_
  refine f_J7_79_J8 dJ7_setLength_19 t1' ?_
  refine r_iload1 dJ7_setLength_22 ?_
  refine r_icmp_geN (tgt := 63) dJ7_setLength_23 (by decide) (by omega) (by omega) (fun c23 => ?_) (fun c23 => absurd c23 (by omega))
  refine r_aload0 dJ7_setLength_63 ?_
  refine f_J7_79_J8 dJ7_setLength_64 t1' ?_
  refine r_iload1 dJ7_setLength_67 ?_
  refine r_icmp_leN (tgt := 76) dJ7_setLength_68 (by decide) (by omega) (by omega) (fun c68 => ?_) (fun c68 => ?_)
  · refine r_aload0 dJ7_setLength_76 ?_
    refine r_iload1 dJ7_setLength_77 ?_
    refine p_J7_79_J8 dJ7_setLength_78 (by omega) t1' ?_
    exact r_return dJ7_setLength_81 rfl (⟨e', cap', ⟨⟨_, g_us⟩, T ++ R, by rw [g_un tn']; exact t2, by rw [List.length_append]; simp; omega, t4, t5, t6⟩, z2, z3, fun q h1 h2 h3 => by rw [g_un h2]; exact z4 q h1 h2, z5, z6⟩)
  · refine r_aload0 dJ7_setLength_71 ?_
    refine r_iconst (v := nI 1) dJ7_setLength_72 (by decide) ?_
    refine p_J7_73_J8 dJ7_setLength_73 (by omega) t1' ?_
    refine r_aload0 dJ7_setLength_76 ?_
    refine r_iload1 dJ7_setLength_77 ?_
    refine p_J7_79_J8 dJ7_setLength_78 (by omega) g_us ?_
    exact r_return dJ7_setLength_81 rfl (⟨e', cap', ⟨⟨_, g_us⟩, T ++ R, by rw [g_un tn', g_un tn']; exact t2, by rw [List.length_append]; simp; omega, t4, t5, t6⟩, z2, z3, fun q h1 h2 h3 => by rw [g_un h2, g_un h2]; exact z4 q h1 h2, z5, z6⟩)
theorem k_setLength (hb : k_b K ≤ s) (t : sbT K s e cap T h) : g_Met K mJ8_setLength 5 1 150 [.ref s, .int (nI 0)] h n (gV fun h' n' => sbP K s e [] h n h' n') gN := by
  obtain ⟨ml0, t1⟩ := t.1
  refine g_Met.of (M := mJ8_setLength) (L := [some (.ref s), some (.int (nI 0))]) (by decide +kernel) (Nat.le_of_ble_eq_true rfl) rfl ?_
  refine r_aload0 dJ8_setLength_0 ?_
  refine r_iload1 dJ8_setLength_1 ?_
  refine r_callSU (M' := mJ7_setLength) _ dJ8_setLength_2 q3250 q4024 q370 q3251 (by decide) rfl (lw_all_tbl q3252) q134 (by exact pl_J7_setLength) gc_J8 t1 ((k_J7_setLength hb t)) (by omega) (Nat.le_of_ble_eq_true rfl) (by omega) (by omega) rfl (Nat.le_of_ble_eq_true rfl) rfl (kV fun h2 n2 e2 => ?_) kN
  exact r_return dJ8_setLength_5 rfl (e2)
end
