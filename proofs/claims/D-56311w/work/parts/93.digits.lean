/-! numbers as texts -/
set_option maxRecDepth 100000
theorem dgs_s {v : Nat} : ∀ k, dgs v (k + 1) = dgs (v / 10) k ++ [48 + v % 10] := by
  intro k
  induction k with
  | zero =>
    show (48 + v / 10 ^ 1 % 10) :: [48 + v % 10] = [48 + v / 10 % 10] ++ [48 + v % 10]
    rw [Nat.pow_one]
    rfl
  | succ k ih =>
    show (48 + v / 10 ^ (k + 1 + 1) % 10) :: dgs v (k + 1) = ((48 + v / 10 / 10 ^ (k + 1) % 10) :: dgs (v / 10) k) ++ [48 + v % 10]
    rw [ih, Nat.div_div_eq_div_mul, show 10 * 10 ^ (k + 1) = 10 ^ (k + 1 + 1) by rw [Nat.pow_succ 10 (k + 1), Nat.mul_comm]]
    rfl
theorem ndg_10 {v : Nat} (h : 10 ≤ v) (h2 : v < 1000000000) : ndg v = ndg (v / 10) + 1 := by
  have b1 := @ndg_b v
  have b2 := @ndg_b (v / 10)
  have e : ∀ k, v / 10 / 10 ^ k = v / 10 ^ (k + 1) := fun k => by rw [Nat.div_div_eq_div_mul, Nat.pow_succ, Nat.mul_comm]
  have h0 : 0 < ndg v := (ndg_l h2 (by omega)).mp (by rw [Nat.pow_zero, Nat.div_one]; omega)
  rcases Nat.lt_trichotomy (ndg v) (ndg (v / 10) + 1) with c | c | c
  · have h1 := (ndg_l (v := v / 10) (k := ndg v - 1) (by omega) (by omega)).mpr (by omega)
    rw [e, Nat.sub_add_cancel h0] at h1
    have := (ndg_l h2 b1).mp h1
    omega
  · exact c
  · have h1 := (ndg_l (k := ndg (v / 10) + 1) h2 (by omega)).mpr c
    rw [← e] at h1
    have := (ndg_l (v := v / 10) (by omega) b2).mp h1
    omega
theorem dgN_s {v : Nat} (h : 10 ≤ v) (h2 : v < 1000000000) : dgN v = dgN (v / 10) ++ [48 + v % 10] := by
  unfold dgN
  rw [ndg_10 h h2, dgs_s]
theorem dgN_1 {v : Nat} (h : v < 10) : dgN v = [48 + v] := by
  unfold dgN ndg
  rw [if_pos h]
  show [48 + v % 10] = _
  rw [Nat.mod_eq_of_lt h]
theorem dgN_2 {v : Nat} (h1 : 10 ≤ v) (h : v < 100) : dgN v = [48 + v / 10, 48 + v % 10] := by
  rw [dgN_s h1 (by omega), dgN_1 (v := v / 10) (by omega)]
  rfl
theorem dgN_h {v : Nat} (h1 : 100 ≤ v) (h : v < 1000000000) : dgN v = dgN (v / 100) ++ [48 + v % 100 / 10, 48 + v % 100 % 10] := by
  rw [dgN_s (by omega) h, dgN_s (v := v / 10) (by omega) (by omega), List.append_assoc, show v / 10 / 10 = v / 100 by omega, show v / 10 % 10 = v % 100 / 10 by omega, show v % 10 = v % 100 % 10 by omega]
  rfl
theorem dgN_len {v : Nat} : (dgN v).length = ndg v + 1 := dgs_len
theorem dgN_c {v c : Nat} (h : c ∈ dgN v) : 48 ≤ c ∧ c ≤ 57 := by
  have : ∀ k, ∀ c ∈ dgs v k, 48 ≤ c ∧ c ≤ 57 := by
    intro k
    induction k with
    | zero => intro c hc; simp [dgs] at hc; omega
    | succ k ih =>
      intro c hc
      rcases List.mem_cons.mp hc with z | z
      · omega
      · exact ih c z
  exact this _ c h
/-! ints below zero -/
theorem mI_ti {v : Nat} (h : v < 2147483648) : (-nI v).toInt = -(v : Int) := by
  rw [Int32.toInt_neg, nI_toInt h]
  rw [Int.bmod_eq_of_le] <;> omega
theorem mI_le {a b : Nat} (ha : a < 2147483648) (hb : b < 2147483648) : -nI a ≤ -nI b ↔ b ≤ a := by
  rw [Int32.le_iff_toInt_le, mI_ti ha, mI_ti hb]
  omega
theorem mI_lt {a b : Nat} (ha : a < 2147483648) (hb : b < 2147483648) : -nI a < -nI b ↔ b < a := by
  rw [Int32.lt_iff_toInt_lt, mI_ti ha, mI_ti hb]
  omega
theorem mI_div {a b : Nat} (ha : a < 2147483648) (hb : b < 2147483648) (h0 : 0 < b) : -nI a / nI b = -nI (a / b) := by
  apply Int32.toInt_inj.mp
  have q : a / b ≤ a := Nat.div_le_self _ _
  rw [Int32.toInt_div, mI_ti ha, nI_toInt hb, mI_ti (by omega), Int.neg_tdiv, Int.tdiv_eq_ediv_of_nonneg (by omega), ← Int.natCast_ediv]
  generalize a / b = k at q
  rw [Int.bmod_eq_of_le] <;> omega
theorem mI_rem {v : Nat} : -nI (v / 100) * nI 100 - -nI v = nI (v % 100) := by
  have e : nI v = nI (v / 100) * nI 100 + nI (v % 100) := by
    rw [pk_mul, nI_add]; congr 1; omega
  rw [e, Int32.neg_mul, Int32.sub_eq_add_neg, Int32.neg_neg, ← Int32.add_assoc, Int32.add_left_neg, Int32.zero_add]
theorem set_bf {B D E : List Nat} {p c : Nat} (h1 : 1 ≤ p) (h2 : p ≤ B.length) : (B.take p ++ (D ++ E)).set (p - 1) c = B.take (p - 1) ++ ((c :: D) ++ E) := by
  obtain ⟨k, rfl⟩ : ∃ k, p = k + 1 := ⟨p - 1, by omega⟩
  rw [Nat.add_sub_cancel, List.take_succ_eq_append_getElem (by omega), List.append_assoc, List.set_append_right _ _ (by rw [List.length_take]; omega)]
  rw [List.length_take, Nat.min_eq_left (by omega), Nat.sub_self]
  rfl
theorem nI_mneg {k : Nat} : nI 10 * -nI k = -nI (k * 10) := by
  rw [Int32.mul_neg, pk_mul, Nat.mul_comm]
section
variable {K : g_K} {W : c_W} {s e cap n : Nat} {T : List Nat} {h : g_P}
theorem k_stringSize {v : Nat} (hv : v < 1000000000) : g_Met K mJ14_stringSize 0 0 0 [.int (nI v)] h n (gI fun r h' n' => r = nI (ndg v + 1) ∧ h' = h ∧ n' = n) gN := by
  have nb := @ndg_b v
  have loop : ∀ (g i : Nat), i + g = ndg v + 1 → 1 ≤ i → g_G K mJ14_stringSize 0 0 0 (gI fun r h' n' => r = nI (ndg v + 1) ∧ h' = h ∧ n' = n) gN 16 [some (.int (-nI v)), some (.int (nI 0)), some (.int (-nI (10 ^ i))), some (.int (nI i))] [] h n := by
    intro g
    induction g with
    | zero =>
      intro i hi h1
      have : i = ndg v + 1 := by omega
      subst this
      have p9 : 10 ^ (ndg v + 1) ≤ 10 ^ 9 := Nat.pow_le_pow_right (by omega) (by omega)
      have vl : v < 10 ^ (ndg v + 1) := by
        have q := mt (ndg_l (k := ndg v) hv nb).mp (Nat.lt_irrefl _)
        have q2 : v / 10 ^ ndg v < 10 := by omega
        rw [Nat.pow_succ, Nat.mul_comm]
        exact (Nat.div_lt_iff_lt_mul (Nat.pow_pos (by omega))).mp q2
      refine r_iload3 dJ14_stringSize_16 ?_
      refine r_bipush (v := nI 10) dJ14_stringSize_17 (by decide) ?_
      refine r_icmp_geN (tgt := 42) dJ14_stringSize_19 (by decide) (by omega) (by omega) (fun c19 => absurd c19 (by omega)) (fun c19 => ?_)
      refine r_iload0 dJ14_stringSize_22 ?_
      refine r_iload2 dJ14_stringSize_23 ?_
      refine r_icmp_le (tgt := 31) dJ14_stringSize_24 (by decide) (fun c24 => absurd c24 ((fun z => by have := (mI_le (by omega) (by omega)).mp z; omega))) (fun c24 => ?_)
      refine r_iload3 dJ14_stringSize_27 ?_
      refine r_iload1 dJ14_stringSize_28 ?_
      refine r_iadd dJ14_stringSize_29 (nI_add _ _) ?_
      exact r_ireturn dJ14_stringSize_30 rfl rfl (⟨rfl, rfl, rfl⟩)
    | succ g ih =>
      intro i hi h1
      have p9 : 10 ^ (i + 1) ≤ 10 ^ 9 := Nat.pow_le_pow_right (by omega) (by omega)
      have p8 : 10 ^ i ≤ 10 ^ (i + 1) := Nat.pow_le_pow_right (by omega) (by omega)
      have vl : 10 ^ i ≤ v := by
        have q := (ndg_l (v := v) (k := i - 1) hv (by omega)).mpr (by omega)
        have q2 : 10 * 10 ^ (i - 1) ≤ v := (Nat.le_div_iff_mul_le (Nat.pow_pos (by omega))).mp q
        rw [show 10 ^ i = 10 * 10 ^ (i - 1) by rw [Nat.mul_comm, ← Nat.pow_succ]; congr 1; omega]
        exact q2
      refine r_iload3 dJ14_stringSize_16 ?_
      refine r_bipush (v := nI 10) dJ14_stringSize_17 (by decide) ?_
      refine r_icmp_geN (tgt := 42) dJ14_stringSize_19 (by decide) (by omega) (by omega) (fun c19 => absurd c19 (by omega)) (fun c19 => ?_)
      refine r_iload0 dJ14_stringSize_22 ?_
      refine r_iload2 dJ14_stringSize_23 ?_
      refine r_icmp_le (tgt := 31) dJ14_stringSize_24 (by decide) (fun c24 => ?_) (fun c24 => absurd ((mI_le (by omega) (by omega)).mpr vl) c24)
      refine r_bipush (v := nI 10) dJ14_stringSize_31 (by decide) ?_
      refine r_iload2 dJ14_stringSize_33 ?_
      refine r_imul dJ14_stringSize_34 (show _ = -nI (10 ^ (i + 1)) by rw [nI_mneg, Nat.pow_succ]) ?_
      refine r_istore2 dJ14_stringSize_35 ?_
      refine r_iinc3 dJ14_stringSize_36 (ii1 _) ?_
      refine r_goto (tgt := 16) dJ14_stringSize_39 (by decide) ?_
      exact ih (i + 1) (by omega) (by omega)
  refine g_Met.of (M := mJ14_stringSize) (L := [some (.int (nI v)), none, none, none]) (by decide +kernel) (Nat.le_of_ble_eq_true rfl) rfl ?_
  refine r_iconst (v := nI 1) dJ14_stringSize_0 (by decide) ?_
  refine r_istore1 dJ14_stringSize_1 ?_
  refine r_iload0 dJ14_stringSize_2 ?_
  refine r_if_ltN (tgt := 11) dJ14_stringSize_3 (by decide) (by omega) (fun c3 => absurd c3 (by omega)) (fun c3 => ?_)
  refine r_iconst (v := nI 0) dJ14_stringSize_6 (by decide) ?_
  refine r_istore1 dJ14_stringSize_7 ?_
  refine r_iload0 dJ14_stringSize_8 ?_
  refine r_ineg dJ14_stringSize_9 rfl ?_
  refine r_istore0 dJ14_stringSize_10 ?_
  refine r_bipush (v := (-10)) dJ14_stringSize_11 (by decide) ?_
  refine r_istore2 dJ14_stringSize_13 ?_
  refine r_iconst (v := nI 1) dJ14_stringSize_14 (by decide) ?_
  refine r_istore3 dJ14_stringSize_15 ?_
  exact loop (ndg v) 1 (by omega) (by omega)
/-- the buffer with the digits D written in front of idx -/
def bfD (B : List Nat) (idx p : Nat) (D : List Nat) : List Nat := B.take p ++ (D ++ B.drop idx)
theorem bfD_len {B D : List Nat} {idx p : Nat} (h1 : p + D.length = idx) (h2 : idx ≤ B.length) : (bfD B idx p D).length = B.length := by
  unfold bfD
  rw [List.length_append, List.length_append, List.length_take, List.length_drop]
  omega
theorem k_getChars {v0 idx : Nat} {B : List Nat} (w0 : cOK K W) (hv0 : v0 < 1000000000) (he : k_b K ≤ e) (ho : h e = some (g_ar 4 (byt B))) (hi : idx ≤ B.length) (hB : B.length < 1000) (hl : (dgN v0).length ≤ idx) : g_Met K mJ14_getChars 0 0 0 [.int (nI v0), .int (nI idx), .ref e] h n (gI fun r h' n' => h' = g_up h e (g_ar 4 (byt (bfD B idx (idx - (dgN v0).length) (dgN v0)))) ∧ n' = n) gN := by
  refine g_Met.facts fun f1 f2 f3 => ?_
  obtain ⟨s1, s2, s3, s4, s5, s6⟩ := w0.2.2.2.2.2.2
  have o1 : ∀ c, (g_up h e c) (c_O W) = some (g_ar 4 ((List.range 100).map fun i => .int (nI (48 + i % 10)))) := fun c => by rw [g_un (by omega), f3 _ s2]; exact s3
  have o2 : ∀ c, (g_up h e c) (c_T W) = some (g_ar 4 ((List.range 100).map fun i => .int (nI (48 + i / 10)))) := fun c => by rw [g_un (by omega), f3 _ s5]; exact s6
  have x1 : ∀ {r : Nat}, r < 100 → ((List.range 100).map fun i => Value.int (nI (48 + i % 10)))[r]? = some (.int (nI (48 + r % 10))) := fun {r} hr => by simp [hr]
  have x2 : ∀ {r : Nat}, r < 100 → ((List.range 100).map fun i => Value.int (nI (48 + i / 10)))[r]? = some (.int (nI (48 + r / 10))) := fun {r} hr => by simp [hr]
  have put : ∀ {p c : Nat} {D : List Nat}, 1 ≤ p → p + D.length = idx → (byt (bfD B idx p D)).set (p - 1) (.int (nI c)) = byt (bfD B idx (p - 1) (c :: D)) := fun {p c D} h1 h2 => by
    rw [byt_set]
    exact congrArg byt (set_bf h1 (by omega))
  have fin : ∀ (v p : Nat) (D : List Nat) (o3 o4 : Option Value), g_c1 o4 → v < 100 → dgN v0 = dgN v ++ D → p + D.length = idx → idx - (dgN v0).length + (dgN v).length = p → g_G K mJ14_getChars 0 0 0 (gI fun r h' n' => h' = g_up h e (g_ar 4 (byt (bfD B idx (idx - (dgN v0).length) (dgN v0)))) ∧ n' = n) gN 72 [some (.int (-nI v)), some (.int (nI idx)), some (.ref e), o3, o4, some (.int (nI p)), some (.int (nI 0))] [] (g_up h e (g_ar 4 (byt (bfD B idx p D)))) n := by
    intro v p D o3 o4 c4 hv hd hp hb
    have dl := @dgN_len v
    have p1 : p - 1 + ((48 + v % 10) :: D).length = idx := by rw [List.length_cons]; omega
    refine r_aload2 dJ14_getChars_72 ?_
    refine r_iinc5 dJ14_getChars_73 (show _ = nI (p - 1) by rw [show p = p - 1 + 1 by omega]; exact iim1 _) ?_
    refine r_iload5 dJ14_getChars_76 ?_
    refine r_getstatic dJ14_getChars_78 s1 q686 (Or.inl rfl) ?_
    refine r_iload0 dJ14_getChars_81 ?_
    refine r_ineg dJ14_getChars_82 Int32.neg_neg ?_
    refine r_baload (v) dJ14_getChars_83 (o1 _) rfl (by omega) (x1 hv) ?_
    refine r_bastore ((p - 1)) dJ14_getChars_84 (by omega) g_us rfl (by omega) (by rw [byt_len, bfD_len hp hi]; omega) (fit_b (by omega)).1 ?_
    rw [g_up_up, put (by omega) hp]
    refine r_iload0 dJ14_getChars_85 ?_
    refine r_bipush (v := (-9)) dJ14_getChars_86 (by decide) ?_
    have e9 : (-9 : Int32) = -nI 9 := rfl
    rw [e9]
    refine r_icmp_ge (tgt := 104) dJ14_getChars_88 (by decide) (fun c88 => ?_) (fun c88 => ?_)
    · have v9 : v ≤ 9 := (mI_le (a := 9) (b := v) (by omega) (by omega)).mp c88
      have eq9 : (48 + v % 10) :: D = dgN v0 := by rw [hd, dgN_1 (v := v) (by omega), Nat.mod_eq_of_lt (by omega)]; rfl
      have ep : p - 1 = idx - (dgN v0).length := by rw [dgN_1 (v := v) (by omega)] at hb; simp at hb; omega
      rw [eq9, ep]
      refine r_iload6 dJ14_getChars_104 ?_
      refine r_if_eqN (tgt := 118) dJ14_getChars_106 (by decide) (by omega) (fun c106 => ?_) (fun c106 => absurd c106 (by omega))
      refine r_iload5 dJ14_getChars_118 ?_
      exact r_ireturn dJ14_getChars_120 rfl rfl (⟨rfl, rfl⟩)
    · have v9 : 9 < v := by have := mt (mI_le (a := 9) (b := v) (by omega) (by omega)).mpr c88; omega
      have eq9 : (48 + v / 10) :: ((48 + v % 10) :: D) = dgN v0 := by rw [hd, dgN_2 (v := v) (by omega) hv]; rfl
      have ep : p - 1 - 1 = idx - (dgN v0).length := by rw [dgN_2 (v := v) (by omega) hv] at hb; simp at hb; omega
      have pp : 2 ≤ p := by rw [dgN_2 (v := v) (by omega) hv] at hb; simp at hb; omega
      refine r_aload2 dJ14_getChars_91 ?_
      refine r_iinc5 dJ14_getChars_92 (show _ = nI (p - 1 - 1) by rw [show p - 1 = p - 1 - 1 + 1 by omega]; exact iim1 _) ?_
      refine r_iload5 dJ14_getChars_95 ?_
      refine r_getstatic dJ14_getChars_97 s4 q688 (Or.inl rfl) ?_
      refine r_iload0 dJ14_getChars_100 ?_
      refine r_ineg dJ14_getChars_101 Int32.neg_neg ?_
      refine r_baload (v) dJ14_getChars_102 (o2 _) rfl (by omega) (x2 hv) ?_
      refine r_bastore ((p - 1 - 1)) dJ14_getChars_103 (by omega) g_us rfl (by omega) (by rw [byt_len, bfD_len p1 hi]; omega) (fit_b (by omega)).1 ?_
      rw [g_up_up, put (by omega) p1, eq9, ep]
      refine r_iload6 dJ14_getChars_104 ?_
      refine r_if_eqN (tgt := 118) dJ14_getChars_106 (by decide) (by omega) (fun c106 => ?_) (fun c106 => absurd c106 (by omega))
      refine r_iload5 dJ14_getChars_118 ?_
      exact r_ireturn dJ14_getChars_120 rfl rfl (⟨rfl, rfl⟩)
  have loop : ∀ (g v p : Nat) (D : List Nat) (o3 o4 : Option Value), v < g → v < 1000000000 → g_c1 o3 → g_c1 o4 → dgN v0 = dgN v ++ D → p + D.length = idx → idx - (dgN v0).length + (dgN v).length = p → g_G K mJ14_getChars 0 0 0 (gI fun r h' n' => h' = g_up h e (g_ar 4 (byt (bfD B idx (idx - (dgN v0).length) (dgN v0)))) ∧ n' = n) gN 22 [some (.int (-nI v)), some (.int (nI idx)), some (.ref e), o3, o4, some (.int (nI p)), some (.int (nI 0))] [] (g_up h e (g_ar 4 (byt (bfD B idx p D)))) n := by
    intro g
    induction g with
    | zero => intro v p D o3 o4 hg; omega
    | succ g ih =>
      intro v p D o3 o4 hg hv c3 c4 hd hp hb
      have e100 : (-100 : Int32) = -nI 100 := rfl
      refine r_iload0 dJ14_getChars_22 ?_
      refine r_bipush (v := (-100)) dJ14_getChars_23 (by decide) ?_
      rw [e100]
      refine r_icmp_gt (tgt := 72) dJ14_getChars_25 (by decide) (fun c25 => ?_) (fun c25 => ?_)
      · exact fin v p D _ _ c4 ((mI_lt (by omega) (by omega)).mp c25) hd hp hb
      · have v100 : 100 ≤ v := by have := mt (mI_lt (a := 100) (b := v) (by omega) (by omega)).mpr c25; omega
        have p1 : p - 1 + ((48 + v % 100 % 10) :: D).length = idx := by rw [dgN_h v100 hv] at hb; simp at hb; rw [List.length_cons]; omega
        have pp : 3 ≤ p := by rw [dgN_h v100 hv] at hb; have := @dgN_len (v / 100); simp at hb; omega
        refine r_iload0 dJ14_getChars_28 ?_
        refine r_bipush (v := nI 100) dJ14_getChars_29 (by decide) ?_
        refine r_idiv dJ14_getChars_31 (nI_ne0 (by omega) (by omega)) (mI_div (by omega) (by decide) (by decide)) ?_
        refine r_istore3 dJ14_getChars_32 ?_
        refine r_iload3 dJ14_getChars_33 ?_
        refine r_bipush (v := nI 100) dJ14_getChars_34 (by decide) ?_
        refine r_imul dJ14_getChars_36 rfl ?_
        refine r_iload0 dJ14_getChars_37 ?_
        refine r_isub dJ14_getChars_38 mI_rem ?_
        refine r_istore4 dJ14_getChars_39 ?_
        refine r_iload3 dJ14_getChars_41 ?_
        refine r_istore0 dJ14_getChars_42 ?_
        refine r_aload2 dJ14_getChars_43 ?_
        refine r_iinc5 dJ14_getChars_44 (show _ = nI (p - 1) by rw [show p = p - 1 + 1 by omega]; exact iim1 _) ?_
        refine r_iload5 dJ14_getChars_47 ?_
        refine r_getstatic dJ14_getChars_49 s1 q686 (Or.inl rfl) ?_
        refine r_iload4 dJ14_getChars_52 ?_
        refine r_baload ((v % 100)) dJ14_getChars_54 (o1 _) rfl (by omega) (x1 (by omega)) ?_
        refine r_bastore ((p - 1)) dJ14_getChars_55 (by omega) g_us rfl (by omega) (by rw [byt_len, bfD_len hp hi]; omega) (fit_b (by omega)).1 ?_
        rw [g_up_up, put (by omega) hp]
        refine r_aload2 dJ14_getChars_56 ?_
        refine r_iinc5 dJ14_getChars_57 (show _ = nI (p - 1 - 1) by rw [show p - 1 = p - 1 - 1 + 1 by omega]; exact iim1 _) ?_
        refine r_iload5 dJ14_getChars_60 ?_
        refine r_getstatic dJ14_getChars_62 s4 q688 (Or.inl rfl) ?_
        refine r_iload4 dJ14_getChars_65 ?_
        refine r_baload ((v % 100)) dJ14_getChars_67 (o2 _) rfl (by omega) (x2 (by omega)) ?_
        refine r_bastore ((p - 1 - 1)) dJ14_getChars_68 (by omega) g_us rfl (by omega) (by rw [byt_len, bfD_len p1 hi]; omega) (fit_b (by omega)).1 ?_
        rw [g_up_up, put (by omega) p1]
        refine r_goto (tgt := 22) dJ14_getChars_69 (by decide) ?_
        exact ih (v / 100) (p - 1 - 1) _ _ _ (by omega) (by omega) g_c1i g_c1i (by rw [hd, dgN_h v100 hv, List.append_assoc]; rfl) (by simp only [List.length_cons] at p1 ⊢; omega) (by rw [dgN_h v100 hv] at hb; simp at hb; omega)
  have bf0 : h = g_up h e (g_ar 4 (byt (bfD B idx idx []))) := by
    refine (g_self ?_).symm
    unfold bfD
    rw [List.nil_append, List.take_append_drop]
    exact ho
  refine g_Met.of (M := mJ14_getChars) (L := [some (.int (nI v0)), some (.int (nI idx)), some (.ref e), none, none, none, none]) (by decide +kernel) (Nat.le_of_ble_eq_true rfl) rfl ?_
  refine r_iload1 dJ14_getChars_0 ?_
  refine r_istore5 dJ14_getChars_1 ?_
  refine r_iload0 dJ14_getChars_3 ?_
  refine r_if_geN (tgt := 11) dJ14_getChars_4 (by decide) (by omega) (fun c4 => ?_) (fun c4 => absurd c4 (by omega))
  refine r_iconst (v := nI 0) dJ14_getChars_11 (by decide) ?_
  refine r_istore6 dJ14_getChars_12 ?_
  refine r_iload6 dJ14_getChars_14 ?_
  refine r_if_neN (tgt := 22) dJ14_getChars_16 (by decide) (by omega) (fun c16 => absurd c16 (by omega)) (fun c16 => ?_)
  refine r_iload0 dJ14_getChars_19 ?_
  refine r_ineg dJ14_getChars_20 rfl ?_
  refine r_istore0 dJ14_getChars_21 ?_
  refine g_eq rfl rfl rfl bf0 (?_)
  exact loop (v0 + 1) v0 idx [] _ _ (by omega) hv0 g_c1n g_c1n (List.append_nil _).symm (by simp) (by omega)
theorem k_J7_append2 {v : Nat} (w0 : cOK K W) (hb : k_b K ≤ s) (t : sbT K s e cap T h) (hv : v < 1000000000) (hn : T.length + (dgN v).length ≤ 71) : g_Met K mJ7_append_2 4 1 150 [.ref s, .int (nI v)] h n (gA fun r h' n' => r = .ref s ∧ sbP K s e (T ++ dgN v) h n h' n') gN := by
  refine g_Met.facts fun f1 f2 f3 => ?_
  have tn := t.ne
  obtain ⟨ml0, t1⟩ := t.1
  have sn := f2 _ _ t1
  have dl := @dgN_len v
  refine g_Met.of (M := mJ7_append_2) (L := [some (.ref s), some (.int (nI v)), none, none]) (by decide +kernel) (Nat.le_of_ble_eq_true rfl) rfl ?_
  refine r_aload0 dJ7_append_2_0 ?_
  refine f_J7_79_J8 dJ7_append_2_1 t1 ?_
  refine r_istore2 dJ7_append_2_4 ?_
  refine r_iload2 dJ7_append_2_5 ?_
  refine r_iload1 dJ7_append_2_6 ?_
  refine r_callS (M' := mJ14_stringSize) _ dJ7_append_2_7 q680 q681 rfl (lw_all_tbl q682) q144 (by exact pl_J14_stringSize)  ((k_stringSize hv)) (by omega) (Nat.le_of_ble_eq_true rfl) (by omega) (by omega) rfl (Nat.le_of_ble_eq_true rfl) rfl (kI fun r7 h7 n7 e7 => ?_) kN
  obtain ⟨q9, q8, q7⟩ := e7; have q9 := q9.symm; have q8 := q8.symm; have q7 := q7.symm; subst q9; subst q8; subst q7
  refine r_iadd dJ7_append_2_10 (nI_add _ _) ?_
  refine r_istore3 dJ7_append_2_11 ?_
  refine r_aload0 dJ7_append_2_12 ?_
  refine r_iload3 dJ7_append_2_13 ?_
  refine r_callVP (M' := mJ7_ensureCapacityInternal) _ dJ7_append_2_14 q564 q566 q565 q602 ⟨by decide, by decide⟩ rfl (lw_all_tbl q567) q134 (by exact pl_J7_ensureCapacityInternal) gc_J8 t1 ((k_ensure hb t (by omega))) (by omega) (Nat.le_of_ble_eq_true rfl) (by omega) (by omega) rfl (Nat.le_of_ble_eq_true rfl) rfl (kV fun h14 n14 e14 => ?_) kN
  obtain ⟨e', cap', t', z1, z2, z3, z4, z5, z6⟩ := e14
  have t0 := t'
  have tn' := t'.ne
  obtain ⟨⟨ml, t1'⟩, R, t2, t3, t4, t5, t6⟩ := t'
  refine r_aload0 dJ7_append_2_17 ?_
  refine r_callVU (M' := mJ7_isLatin1) _ dJ7_append_2_18 q599 q601 (Or.inl ⟨q600, _, _, _, q603⟩) ⟨by decide, by decide⟩ q602 q600 rfl (lw_all_tbl q603) q134 (by exact (⟨by decide, by decide, by decide +kernel⟩ : g_pl ⟨"java/lang/AbstractStringBuilder", "isLatin1", "()Z"⟩ 0)) gc_J8 t1' ((k_isLatin7 w0 t1')) (by omega) (Nat.le_of_ble_eq_true rfl) (by omega) (by omega) rfl (Nat.le_of_ble_eq_true rfl) rfl (kI fun r18 h18 n18 e18 => ?_) kN
  obtain ⟨q9, q8, q7⟩ := e18; have q9 := q9.symm; have q8 := q8.symm; have q7 := q7.symm; subst q9; subst q8; subst q7
  refine r_if_eqN (tgt := 37) dJ7_append_2_21 (by decide) (by omega) (fun c21 => absurd c21 (by omega)) (fun c21 => ?_)
  refine r_iload1 dJ7_append_2_24 ?_
  refine r_iload3 dJ7_append_2_25 ?_
  refine r_aload0 dJ7_append_2_26 ?_
  refine f_J7_15_J8 dJ7_append_2_27 t1' ?_
  refine r_callS (M' := mJ14_getChars) _ dJ7_append_2_30 q683 q684 rfl (lw_all_tbl q685) q144 (by exact pl_J14_getChars)  ((k_getChars (B := T ++ R) (idx := T.length + (ndg v + 1)) w0 hv t5 t2 (by rw [List.length_append]; omega) (by rw [List.length_append]; omega) (by omega))) (by omega) (Nat.le_of_ble_eq_true rfl) (by omega) (by omega) rfl (Nat.le_of_ble_eq_true rfl) rfl (kI fun r30 h30 n30 e30 => ?_) kN
  obtain ⟨q8, q7⟩ := e30; have q8 := q8.symm; have q7 := q7.symm; subst q8; subst q7
  have eb : bfD (T ++ R) (T.length + (ndg v + 1)) (T.length + (ndg v + 1) - (dgN v).length) (dgN v) = (T ++ dgN v) ++ R.drop (dgN v).length := by
    unfold bfD
    rw [show T.length + (ndg v + 1) - (dgN v).length = T.length by omega, ← dl, List.take_left' rfl, List.drop_append, List.drop_eq_nil_of_le (Nat.le_add_right _ _), Nat.add_sub_cancel_left, List.nil_append, List.append_assoc]
  rw [eb]
  refine r_pop dJ7_append_2_33 ?_
  refine r_goto (tgt := 48) dJ7_append_2_34 (by decide) ?_
  refine r_aload0 dJ7_append_2_48 ?_
  refine r_iload3 dJ7_append_2_49 ?_
  refine p_J7_79_J8 dJ7_append_2_50 (by omega) (by rw [g_un (Ne.symm tn')]; exact t1') ?_
  refine r_aload0 dJ7_append_2_53 ?_
  exact r_areturn dJ7_append_2_54 rfl (Or.inl ⟨_, rfl⟩) (Or.inr ⟨_, rfl⟩) (⟨rfl, e', cap', ⟨⟨ml, by rw [g_us, List.length_append, dl]⟩, R.drop (dgN v).length, by rw [g_un tn', g_us], by rw [List.length_append, List.length_drop]; omega, t4, t5, fun c2 hc2 => by
      rcases List.mem_append.mp hc2 with z | z
      · rcases List.mem_append.mp z with z | z
        · exact t6 c2 (List.mem_append.mpr (Or.inl z))
        · have := dgN_c z; omega
      · exact t6 c2 (List.mem_append.mpr (Or.inr (List.mem_of_mem_drop z)))⟩, z2, z3, fun q h1 h2 h3 => by rw [g_un h2, g_un (by rcases z2 with z2 | z2; rw [z2]; exact h3; omega)]; exact z4 q h1 h2, z5, z6⟩)
theorem k_appendI {v : Nat} (w0 : cOK K W) (hb : k_b K ≤ s) (t : sbT K s e cap T h) (hv : v < 1000000000) (hn : T.length + (dgN v).length ≤ 71) : g_Met K mJ8_append_2 5 1 150 [.ref s, .int (nI v)] h n (gA fun r h' n' => r = .ref s ∧ sbP K s e (T ++ dgN v) h n h' n') gN := by
  obtain ⟨ml0, t1⟩ := t.1
  refine g_Met.of (M := mJ8_append_2) (L := [some (.ref s), some (.int (nI v))]) (by decide +kernel) (Nat.le_of_ble_eq_true rfl) rfl ?_
  refine r_aload0 dJ8_append_2_0 ?_
  refine r_iload1 dJ8_append_2_1 ?_
  refine r_callSU (M' := mJ7_append_2) _ dJ8_append_2_2 q677 q4008 q370 q678 (by decide) rfl (lw_all_tbl q679) q134 (by exact pl_J7_append_2) gc_J8 t1 ((k_J7_append2 w0 hb t hv hn)) (by omega) (Nat.le_of_ble_eq_true rfl) (by omega) (by omega) rfl (Nat.le_of_ble_eq_true rfl) rfl (kA fun r2 h2 n2 t2 e2 => ?_) kN
  obtain ⟨rfl, z1⟩ := e2
  refine r_pop dJ8_append_2_5 ?_
  refine r_aload0 dJ8_append_2_6 ?_
  exact r_areturn dJ8_append_2_7 rfl (Or.inl ⟨_, rfl⟩) (Or.inr ⟨_, rfl⟩) (⟨rfl, z1⟩)
end
