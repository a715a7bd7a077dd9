/-! texts made of builders; a text of a fraction, of a bowl -/
set_option maxRecDepth 100000
section
variable {K : g_K} {M : g_M} {d bc bs : Nat} {P : g_Q} {X : g_X} {pc : Nat} {L : List (Option Value)} {st : List Value} {h : g_P} {n : Nat}
theorem vm_self (vm : Vm) (c : ClassId) : vm.assignable c c = true := by
  show vm.assignableAux (255 + 1) c c = true
  rw [Vm.assignableAux]
  simp only [beq_self_eq_true, Bool.true_or]
/-- an array of bytes is cast to itself -/
theorem r_checkcastA {index : Nat} {vs : List Value} {a : Nat} (hd : decode M.2.1 pc = .ok (.checkcast index, 3)) (hlink : Cond.classLink M.1.cls index "[B" ∈ lw_all) (ho : h a = some (g_ar 4 vs)) (k : g_G K M d bc bs P X (pc + 3) L (.ref a :: st) h n) : g_G K M d bc bs P X pc L (.ref a :: st) h n := by
  refine g_go (fun p e R s m args below meth c H locs cells slots ls Q hM hR hl k => ?_) k
  obtain ⟨hx, hb, -, -, hown, -, -, -, hKN, -⟩ := hM
  have h5 : H[a]? = some (g_cell (k_A K 4) vs) := hR.2.2.1 a _ ho
  have hB : s.vm.findClass "[B" = some (k_A K 4) := (hKN.2.1 4 .byte rfl).2
  intro T hT X
  obtain ⟨vm', X', st⟩ := X.checkcastYes hx hown (g_all hKN args _ hlink) (by rw [hT]; exact h5) rfl hB (vm_self _ _) (g := F0 m pc ls (.ref a :: _)) rfl rfl (by rw [hb]; exact hd)
  obtain ⟨t, a1, b1⟩ := k ls hl (T.setVm vm') hT X'
  exact ⟨t, st t a1, b1⟩
end
section
variable {K : g_K} {W : c_W} {s e cap n : Nat} {T : List Nat} {h : g_P}
theorem k_checkLength {x y : Nat} (hx : x ≤ y) (hy : y < 1000) : g_Met K mJ29_checkLength 0 0 0 [.int (nI x), .int (nI y)] h n (gV fun h' n' => h' = h ∧ n' = n) gN := by
  refine g_Met.of (M := mJ29_checkLength) (L := [some (.int (nI x)), some (.int (nI y))]) (by decide +kernel) (Nat.le_of_ble_eq_true rfl) rfl ?_
  refine r_iload1 dJ29_checkLength_0 ?_
  refine r_iload0 dJ29_checkLength_1 ?_
  refine r_icmp_geN (tgt := 37) dJ29_checkLength_2 (by decide) (by omega) (by omega) (fun c2 => ?_) (fun c2 => absurd c2 (by omega))
  exact r_return dJ29_checkLength_37 rfl (⟨rfl, rfl⟩)
theorem k_copyOfRangeByte {A : List Nat} {k : Nat} (he : h e = some (g_ar 4 (byt A))) (hA : ∀ c ∈ A, c < 128) (hk : k ≤ A.length) (hl : A.length ≤ 150) : g_Met K mJ29_copyOfRangeByte 1 1 150 [.ref e, .int (nI 0), .int (nI k)] h n (gA fun r h' n' => r = .ref n ∧ h' = g_up h n (g_ar 4 (byt (A.take k))) ∧ n' = n + 1) gN := by
  refine g_Met.facts fun f1 f2 f3 => ?_
  have en := f2 _ _ he
  refine g_Met.of (M := mJ29_copyOfRangeByte) (L := [some (.ref e), some (.int (nI 0)), some (.int (nI k)), none, none]) (by decide +kernel) (Nat.le_of_ble_eq_true rfl) rfl ?_
  refine r_iload1 dJ29_copyOfRangeByte_0 ?_
  refine r_iload2 dJ29_copyOfRangeByte_1 ?_
  refine r_callS (M' := mJ29_checkLength) _ dJ29_copyOfRangeByte_2 q732 q733 rfl (lw_all_tbl q734) q162 (by exact pl_J29_checkLength)  ((k_checkLength (by omega) (by omega))) (by omega) (Nat.le_of_ble_eq_true rfl) (by omega) (by omega) rfl (Nat.le_of_ble_eq_true rfl) rfl (kV fun h2 n2 e2 => ?_) kN
  obtain ⟨q8, q7⟩ := e2; have q8 := q8.symm; have q7 := q7.symm; subst q8; subst q7
  refine r_iload2 dJ29_copyOfRangeByte_5 ?_
  refine r_iload1 dJ29_copyOfRangeByte_6 ?_
  refine r_isub dJ29_copyOfRangeByte_7 (show _ = nI k by rw [pk_sub (Nat.zero_le _), Nat.sub_zero]) ?_
  refine r_istore3 dJ29_copyOfRangeByte_8 ?_
  refine r_iload3 dJ29_copyOfRangeByte_9 ?_
  refine r_newarray (ty := .byte) (k) dJ29_copyOfRangeByte_10 rfl ga_B q371 rfl (by omega) (by first | decide | (simp [componentBytes]; omega)) (by omega) (by omega) ?_
  refine r_astore4 dJ29_copyOfRangeByte_12 ?_
  refine r_aload0 dJ29_copyOfRangeByte_14 ?_
  refine r_iload1 dJ29_copyOfRangeByte_15 ?_
  refine r_aload4 dJ29_copyOfRangeByte_16 ?_
  refine r_iconst (v := nI 0) dJ29_copyOfRangeByte_18 (by decide) ?_
  refine r_aload0 dJ29_copyOfRangeByte_19 ?_
  refine r_arraylength dJ29_copyOfRangeByte_20 ga_B (by rw [g_un (by omega)]; exact he) (by rw [byt_len]) ?_
  refine r_iload1 dJ29_copyOfRangeByte_21 ?_
  refine r_isub dJ29_copyOfRangeByte_22 (show _ = nI A.length by rw [pk_sub (Nat.zero_le _), Nat.sub_zero]) ?_
  refine r_iload3 dJ29_copyOfRangeByte_23 ?_
  refine r_callS (M' := mJ16_min) _ dJ29_copyOfRangeByte_24 q593 q594 rfl (lw_all_tbl q595) q148 (by exact pl_J16_min)  ((k_min (by omega) (by omega))) (by omega) (Nat.le_of_ble_eq_true rfl) (by omega) (by omega) rfl (Nat.le_of_ble_eq_true rfl) rfl (kI fun r24 h24 n24 e24 => ?_) kN
  obtain ⟨q9, q8, q7⟩ := e24; have q9 := q9.symm; have q8 := q8.symm; have q7 := q7.symm; subst q9; subst q8; subst q7
  refine r_acopy (ty := .byte) 0 0 (min A.length k) dJ29_copyOfRangeByte_27 q596 ga_B f1 (by rw [g_un (by omega)]; exact he) g_us rfl rfl rfl (by omega) (by omega) (by omega) (by rw [byt_len]; omega) (by rw [List.length_replicate]; omega) q598 q597 q163 (by omega) rfl (Nat.le_of_ble_eq_true rfl) (fun s H comp hKN hR hcomp v hv => ?_) ?_
  · obtain ⟨c, hc, rfl⟩ := List.mem_map.mp (List.mem_of_mem_drop (List.mem_of_mem_take hv))
    exact ⟨(fit_b (hA c hc)).2, trivial⟩
  refine r_aload4 dJ29_copyOfRangeByte_30 ?_
  exact r_areturn dJ29_copyOfRangeByte_32 rfl (Or.inr ⟨_, rfl⟩) (Or.inr ⟨_, rfl⟩) (⟨rfl, by
      rw [g_up_up, show defaultValue .byte = Value.int (nI 0) from rfl, byt_rep, byt_cpy, Nat.min_eq_right hk]
      refine congrArg (fun l => g_up h n (g_ar 4 (byt l))) ?_
      simp [List.drop_replicate], rfl⟩)
theorem k_copyOfRange {A : List Nat} {k : Nat} (he : h e = some (g_ar 4 (byt A))) (hA : ∀ c ∈ A, c < 128) (hk : k ≤ A.length) (hl : A.length ≤ 150) : g_Met K mJ29_copyOfRange 2 1 150 [.ref e, .int (nI 0), .int (nI k)] h n (gA fun r h' n' => r = .ref n ∧ h' = g_up h n (g_ar 4 (byt (A.take k))) ∧ n' = n + 1) gN := by
  refine g_Met.facts fun f1 f2 f3 => ?_
  refine g_Met.of (M := mJ29_copyOfRange) (L := [some (.ref e), some (.int (nI 0)), some (.int (nI k))]) (by decide +kernel) (Nat.le_of_ble_eq_true rfl) rfl ?_
  refine r_iload1 dJ29_copyOfRange_0 ?_
  refine r_if_neN (tgt := 10) dJ29_copyOfRange_1 (by decide) (by omega) (fun c1 => absurd c1 (by omega)) (fun c1 => ?_)
  refine r_iload2 dJ29_copyOfRange_4 ?_
  refine r_aload0 dJ29_copyOfRange_5 ?_
  refine r_arraylength dJ29_copyOfRange_6 ga_B he (by rw [byt_len]) ?_
  refine r_icmp_eqN (tgt := 17) dJ29_copyOfRange_7 (by decide) (by omega) (by omega) (fun c7 => ?_) (fun c7 => ?_)
  · refine r_aload0 dJ29_copyOfRange_17 ?_
    refine r_aclone dJ29_copyOfRange_18 q586 he (byt_fit hA) (by omega) (by rw [byt_len]; omega) (by omega) rfl (Nat.le_of_ble_eq_true rfl) ?_
    refine r_checkcastA dJ29_copyOfRange_21 q592 g_us ?_
    exact r_areturn dJ29_copyOfRange_24 rfl (Or.inr ⟨_, rfl⟩) (Or.inr ⟨_, rfl⟩) (⟨rfl, by rw [c7, List.take_length], rfl⟩)
  · refine r_aload0 dJ29_copyOfRange_10 ?_
    refine r_iload1 dJ29_copyOfRange_11 ?_
    refine r_iload2 dJ29_copyOfRange_12 ?_
    refine r_callS (M' := mJ29_copyOfRangeByte) _ dJ29_copyOfRange_13 q729 q730 rfl (lw_all_tbl q731) q162 (by exact pl_J29_copyOfRangeByte)  ((k_copyOfRangeByte he hA hk hl)) (by omega) (Nat.le_of_ble_eq_true rfl) (by omega) (by omega) rfl (Nat.le_of_ble_eq_true rfl) rfl (kA fun r13 h13 n13 t13 e13 => ?_) kN
    obtain ⟨q9, q8, q7⟩ := e13; have q9 := q9.symm; have q8 := q8.symm; have q7 := q7.symm; subst q9; subst q8; subst q7
    exact r_areturn dJ29_copyOfRange_16 rfl (Or.inr ⟨_, rfl⟩) (Or.inr ⟨_, rfl⟩) (⟨rfl, rfl, rfl⟩)
theorem k_getValue (t : sbT K s e cap T h) : g_Met K mJ7_getValue 0 0 0 [.ref s] h n (gA fun r h' n' => r = .ref e ∧ h' = h ∧ n' = n) gN := by
  obtain ⟨ml0, t1⟩ := t.1
  refine g_Met.of (M := mJ7_getValue) (L := [some (.ref s)]) (by decide +kernel) (Nat.le_of_ble_eq_true rfl) rfl ?_
  refine r_aload0 dJ7_getValue_0 ?_
  refine f_J7_15_J8 dJ7_getValue_1 t1 ?_
  exact r_areturn dJ7_getValue_4 rfl (Or.inr ⟨_, rfl⟩) (Or.inr ⟨_, rfl⟩) (⟨rfl, rfl, rfl⟩)
theorem k_J9_init2 {a : Nat} {v0 : Value} {c0 x y : Int32} (w0 : cOK K W) (ha : k_b K ≤ a) (t : sbT K s e cap T h) (ho : h a = some (g_ob 21 [v0, .int c0, .int x, .int y])) : g_Met K mJ9_init_2 3 1 150 [.ref a, .ref s, .null] h n (gV fun h' n' => h' = g_up (g_up h n (g_ar 4 (byt T))) a (g_ob 21 [.ref n, .int (nI 0), .int x, .int y]) ∧ n' = n + 1) gN := by
  refine g_Met.facts fun f1 f2 f3 => ?_
  have t0 := t
  obtain ⟨⟨ml, t1⟩, R, t2, t3, t4, t5, t6⟩ := t
  have an := f2 _ _ ho
  have as : s ≠ a := fun z => by rw [z, ho] at t1; exact absurd (obj_inj t1) (by decide)
  have ae : e ≠ a := fun z => by rw [z, ho] at t2; exact obj_arr t2
  refine g_Met.of (M := mJ9_init_2) (L := [some (.ref a), some (.ref s), some (.null), none, none]) (by decide +kernel) (Nat.le_of_ble_eq_true rfl) rfl ?_
  refine r_aload0 dJ9_init_2_0 ?_
  refine r_objInit dJ9_init_2_1 q711 q200 q201 rfl (by omega) (Nat.le_of_ble_eq_true rfl) ?_
  refine r_aload1 dJ9_init_2_4 ?_
  refine r_callVU (M' := mJ7_getValue) _ dJ9_init_2_5 q712 q714 (Or.inl ⟨q713, _, _, _, q716⟩) ⟨by decide, by decide⟩ q715 q713 rfl (lw_all_tbl q716) q134 (by exact (⟨by decide, by decide, by decide +kernel⟩ : g_pl ⟨"java/lang/AbstractStringBuilder", "getValue", "()[B"⟩ 0)) gc_J8 t1 ((k_getValue t0)) (by omega) (Nat.le_of_ble_eq_true rfl) (by omega) (by omega) rfl (Nat.le_of_ble_eq_true rfl) rfl (kA fun r5 h5 n5 t5 e5 => ?_) kN
  obtain ⟨q9, q8, q7⟩ := e5; have q9 := q9.symm; have q8 := q8.symm; have q7 := q7.symm; subst q9; subst q8; subst q7
  refine r_astore3 dJ9_init_2_8 ?_
  refine r_aload1 dJ9_init_2_9 ?_
  refine r_callVU (M' := mJ8_length) _ dJ9_init_2_10 q717 q719 (Or.inl ⟨q718, _, _, _, q724⟩) ⟨by decide, by decide⟩ q720 q721 rfl (lw_all_tbl q722) q135 (by exact (⟨by decide, by decide, by decide +kernel⟩ : g_pl ⟨"java/lang/AbstractStringBuilder", "length", "()I"⟩ 0)) gc_J8 t1 ((k_sbLen t0)) (by omega) (Nat.le_of_ble_eq_true rfl) (by omega) (by omega) rfl (Nat.le_of_ble_eq_true rfl) rfl (kI fun r10 h10 n10 e10 => ?_) kN
  obtain ⟨q9, q8, q7⟩ := e10; have q9 := q9.symm; have q8 := q8.symm; have q7 := q7.symm; subst q9; subst q8; subst q7
  refine r_istore4 dJ9_init_2_13 ?_
  refine r_aload1 dJ9_init_2_15 ?_
  refine r_callVU (M' := mJ7_isLatin1) _ dJ9_init_2_16 q725 q601 (Or.inl ⟨q600, _, _, _, q603⟩) ⟨by decide, by decide⟩ q602 q600 rfl (lw_all_tbl q603) q134 (by exact (⟨by decide, by decide, by decide +kernel⟩ : g_pl ⟨"java/lang/AbstractStringBuilder", "isLatin1", "()Z"⟩ 0)) gc_J8 t1 ((k_isLatin7 w0 t1)) (by omega) (Nat.le_of_ble_eq_true rfl) (by omega) (by omega) rfl (Nat.le_of_ble_eq_true rfl) rfl (kI fun r16 h16 n16 e16 => ?_) kN
  obtain ⟨q9, q8, q7⟩ := e16; have q9 := q9.symm; have q8 := q8.symm; have q7 := q7.symm; subst q9; subst q8; subst q7
  refine r_if_eqN (tgt := 41) dJ9_init_2_19 (by decide) (by omega) (fun c19 => absurd c19 (by omega)) (fun c19 => ?_)
  refine r_aload0 dJ9_init_2_22 ?_
  refine r_iconst (v := nI 0) dJ9_init_2_23 (by decide) ?_
  refine p_J9_15_J9 dJ9_init_2_24 (by omega) ho ?_
  refine r_aload0 dJ9_init_2_27 ?_
  refine r_aload3 dJ9_init_2_28 ?_
  refine r_iconst (v := nI 0) dJ9_init_2_29 (by decide) ?_
  refine r_iload4 dJ9_init_2_30 ?_
  refine r_callS (M' := mJ29_copyOfRange) _ dJ9_init_2_32 q726 q727 rfl (lw_all_tbl q728) q162 (by exact pl_J29_copyOfRange)  ((k_copyOfRange (A := T ++ R) (k := T.length) (by rw [g_un ae]; exact t2) t6 (by rw [List.length_append]; omega) (by rw [List.length_append]; omega))) (by omega) (Nat.le_of_ble_eq_true rfl) (by omega) (by omega) rfl (Nat.le_of_ble_eq_true rfl) rfl (kA fun r32 h32 n32 t32 e32 => ?_) kN
  obtain ⟨q9, q8, q7⟩ := e32; have q9 := q9.symm; have q8 := q8.symm; have q7 := q7.symm; subst q9; subst q8; subst q7
  refine p_J9_9_J9 dJ9_init_2_35 (by omega) (by rw [g_un (by omega)]; exact g_us) ?_
  refine r_goto (tgt := 97) dJ9_init_2_38 (by decide) ?_
  exact r_return dJ9_init_2_97 rfl (⟨by
      funext q
      rw [List.take_left' rfl]
      by_cases z : q = a
      · rw [z, g_us, g_us]
      · rw [g_un z, g_un z]
        by_cases z2 : q = n
        · rw [z2, g_us, g_us]
        · rw [g_un z2, g_un z2, g_un z], rfl⟩)
theorem k_J9_init {a : Nat} {v0 : Value} {c0 x y : Int32} (w0 : cOK K W) (ha : k_b K ≤ a) (t : sbT K s e cap T h) (ho : h a = some (g_ob 21 [v0, .int c0, .int x, .int y])) : g_Met K mJ9_init 4 1 150 [.ref a, .ref s] h n (gV fun h' n' => h' = g_up (g_up h n (g_ar 4 (byt T))) a (g_ob 21 [.ref n, .int (nI 0), .int x, .int y]) ∧ n' = n + 1) gN := by
  refine g_Met.of (M := mJ9_init) (L := [some (.ref a), some (.ref s)]) (by decide +kernel) (Nat.le_of_ble_eq_true rfl) rfl ?_
  refine r_aload0 dJ9_init_0 ?_
  refine r_aload1 dJ9_init_1 ?_
  refine r_null dJ9_init_2 ?_
  refine r_callI (M' := mJ9_init_2) _ dJ9_init_3 q708 q709 rfl rfl rfl (lw_all_tbl q710) q136 (by exact pl_J9_init_2)  ((k_J9_init2 w0 ha t ho)) (by omega) (Nat.le_of_ble_eq_true rfl) (by omega) (by omega) rfl (Nat.le_of_ble_eq_true rfl) rfl (kV fun h3 n3 e3 => ?_) kN
  obtain ⟨q8, q7⟩ := e3; have q8 := q8.symm; have q7 := q7.symm; subst q8; subst q7
  exact r_return dJ9_init_6 rfl (⟨rfl, rfl⟩)
theorem k_sbStr (w0 : cOK K W) (t : sbT K s e cap T h) : g_Met K mJ8_toString 5 2 154 [.ref s] h n (gA fun r h' n' => r = .ref n ∧ strT n (n + 1) T h' ∧ (∀ q : Nat, q < n → h' q = h q) ∧ n' = n + 2) gN := by
  refine g_Met.facts fun f1 f2 f3 => ?_
  obtain ⟨⟨ml, t1⟩, R, t2, t3, t4, t5, t6⟩ := id t
  have sn := f2 _ _ t1
  have en := f2 _ _ t2
  refine g_Met.of (M := mJ8_toString) (L := [some (.ref s)]) (by decide +kernel) (Nat.le_of_ble_eq_true rfl) rfl ?_
  refine n_J8_18 dJ8_toString_0 (by omega) (by omega) ?_
  refine r_dup dJ8_toString_3 ?_
  refine r_aload0 dJ8_toString_4 ?_
  refine r_callI (M' := mJ9_init) _ dJ8_toString_5 q705 q706 rfl rfl rfl (lw_all_tbl q707) q136 (by exact pl_J9_init)  ((k_J9_init (a := n) w0 f1 (t.of (g_un (by omega)) (g_un (by omega))) g_us)) (by omega) (Nat.le_of_ble_eq_true rfl) (by omega) (by omega) rfl (Nat.le_of_ble_eq_true rfl) rfl (kV fun h5 n5 e5 => ?_) kN
  obtain ⟨q8, q7⟩ := e5; have q8 := q8.symm; have q7 := q7.symm; subst q8; subst q7
  exact r_areturn dJ8_toString_8 rfl (Or.inl ⟨_, rfl⟩) (Or.inr ⟨_, rfl⟩) (⟨rfl, ⟨⟨_, _, g_us⟩, by rw [g_un (by omega), g_us], fun c hc => t6 c (List.mem_append.mpr (Or.inl hc))⟩, fun q hq => by rw [g_un (by omega), g_un (by omega), g_un (by omega)], rfl⟩)
end
