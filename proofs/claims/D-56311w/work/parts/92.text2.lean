/-! StringBuilder: append; String: length -/
set_option maxRecDepth 100000
section
variable {K : g_K} {M : g_M} {d bc bs : Nat} {P : g_Q} {X : g_X} {pc : Nat} {L : List (Option Value)} {st : List Value} {h : g_P} {n : Nat}
/-- a private method, by a receiver of a class below -/
theorem r_callVP {st0 : List Value} {M' : g_M} {C nm0 ds0 : String} {T0 : u_T} {N ci : Nat} {fs : List Value} {index d' bc' bs' : Nat} {P' : g_Q} {X' : g_X} (As : List Value) {b : Nat} (hd : decode M.2.1 pc = .ok (.invokevirtual index, 3)) (hlink : Cond.methodLink M.1.cls index M'.1 ∈ lw_all) (hin : Cond.instanceMethod M'.1 ∈ lw_all) (hpr : Cond.privateMethod M'.1 ∈ lw_tbl) (hse0 : Cond.selects C ⟨M'.1.cls, nm0, ds0⟩ ⟨M'.1.cls, nm0, ds0⟩ ∈ lw_all) (hJ : M'.1.cls ≠ "java/lang/invoke/MethodHandle" ∧ M'.1.cls ≠ "java/lang/invoke/VarHandle") (hh : M'.2.2.2.2 = []) (hcw : g_cw M' ∈ lw_tbl) (hini : Cond.initialized M'.1.cls ∈ lw_all) (hpl : g_pl M'.1 As.length) (hcc : g_CL[ci]? = some (C, T0, N)) (ho : h b = some (g_ob ci fs))
    (hM : g_Met K M' d' bc' bs' (.ref b :: As) h n P' X') (hd1 : d' + 1 ≤ d) (hml : M'.2.2.1 ≤ 40) (hc : bc' ≤ bc) (hsl : bs' ≤ bs) (hL : L.length = M.2.2.1) (hw : (st.map fun v => v.category).sum ≤ 8) (hst : st0 = As.reverse ++ .ref b :: st)
    (kn : ∀ (v : Option Value) (h' : g_P) (n' : Nat), P' v h' n' → g_G K M d (bc - bc') (bs - bs') P X (pc + 3) L (v.toList ++ st) h' n') (kx : ∀ (q : Nat) (h' : g_P) (n' : Nat), X' q h' n' → g_GX K M d (bc - bc') (bs - bs') P X pc L h' n' q) :
    g_G K M d bc bs P X pc L st0 h n := by
  subst hst
  intro p e R s m args below meth c H locs cells slots ls hC g1 g2 g3 g4 hR hl hs T hT Z
  have hKN := hC.2.2.2.2.2.2.2.2.1
  have hts := g_all hKN args
  have hcode := hKN.word hcw (g_cwd M') args
  have hsz : ls.size = c.maxLocals := by rw [hs.1, hL, hC.2.2.1]
  obtain ⟨cellB, w1, w2, w3⟩ := g_recv hKN hR hcc ho
  have hsel : (Cond.selects C M'.1 M'.1).before args s = true := by
    obtain ⟨mk, methM, hnamed, hmethM, -, -⟩ := Cond.instanceMethod_spec (hts _ hin)
    obtain ⟨c2, r2, m2, q1, q2, q3, q4, kk, hkk, hki⟩ := Cond.selects_spec (hts _ hse0)
    have hpriv := Cond.privateMethod_at (hKN.word hpr rfl args)
    have hfound : s.methodFound? M'.1.cls M'.1.name M'.1.desc = some mk := State.methodFound?_of_named hnamed hJ
    have hs1 : selectMethod {} s.vm c2 mk = .method mk := selectMethod_private hmethM (hpriv mk methM hnamed hmethM)
    have y1 := findClass_of_methodNamed hnamed
    have y2 := findClass_of_methodNamed q3
    have hcls : mk.cls = m2.cls := Option.some.inj (y1.symm.trans y2)
    simp only [Cond.before, Cond.holds, Cond.value, q1, hfound, hnamed, hs1, hcls, hkk]
    simp
    exact hki
  have hK := g_back (R := R) (p := p) (e := e) (below := below) (s := s) (sargs := args) (len := 3) (W9 := 8) hM hKN hcw hini (by omega) (by omega)
  have hpre : ∀ vm₁, s.WarmedH vm₁ → g_Pre K R bc' bs' (.ref b :: As) h n ⟨T.setVm vm₁, locs, cells, slots⟩ ((.ref b :: As)).toArray := fun vm₁ _ => ⟨rfl, by show cells + bc' ≤ _; omega, by show slots + bs' ≤ _; omega, by show g_RH K T.heap h n; rw [hT]; exact hR⟩
  refine g_after (args := args) (d' := d') (av := ((.ref b :: As)).toArray) (st := st) (len := 3) hC g1 g2 g3 g4 hl hs hc hsl kn kx ?_
  exact vx_callV Z hC.1 hC.2.2.2.2.1 (hts _ hlink) (hts _ hin) hsel (g_cwC hh hcode) ⟨hpl.1, hpl.2.1⟩ hK (by rw [hT]; exact w1) w2 w3 (g := F0 m pc ls (As.reverse ++ .ref b :: st)) rfl hsz (argsL := As) (rest := st) (fun sig he => g_pl_len hpl sig he) rfl (lv_room hw) (by rw [hC.2.1]; exact hd) hpre
end
/-- a String at a, its bytes at b -/
def strT (a b : Nat) (T : List Nat) (h : g_P) : Prop := (∃ x y : Int32, h a = some (g_ob 21 [.ref b, .int (nI 0), .int x, .int y])) ∧ h b = some (g_ar 4 (byt T)) ∧ ∀ c ∈ T, c < 128
theorem strT.of {a b : Nat} {T : List Nat} {h h' : g_P} (t : strT a b T h) (e1 : h' a = h a) (e2 : h' b = h b) : strT a b T h' := by
  obtain ⟨⟨x, y, t1⟩, t2, t3⟩ := t
  exact ⟨⟨x, y, e1.trans t1⟩, e2.trans t2, t3⟩
/-- the answer of an append: the text is T now -/
def sbP (K : g_K) (s e : Nat) (T : List Nat) (h : g_P) (n : Nat) (h' : g_P) (n' : Nat) : Prop := ∃ e' cap', sbT K s e' cap' T h' ∧ (e' = e ∨ n ≤ e') ∧ e' < n' ∧ (∀ q : Nat, q < n → q ≠ s → q ≠ e → h' q = h q) ∧ n ≤ n' ∧ n' ≤ n + 1
theorem sbT.cell {K : g_K} {s e cap : Nat} {T : List Nat} {h : g_P} (t : sbT K s e cap T h) : ∃ vs, h s = some (g_ob 20 vs) := by
  obtain ⟨⟨ml, t1⟩, -⟩ := t
  exact ⟨_, t1⟩
theorem sbT.arr {K : g_K} {s e cap : Nat} {T : List Nat} {h : g_P} (t : sbT K s e cap T h) : ∃ vs, h e = some (g_ar 4 vs) := by
  obtain ⟨-, R, t2, -⟩ := t
  exact ⟨_, t2⟩
theorem sbT.ne {K : g_K} {s e cap : Nat} {T : List Nat} {h : g_P} (t : sbT K s e cap T h) : e ≠ s := fun z => by
  obtain ⟨⟨ml, t1⟩, R, t2, -⟩ := t
  rw [z, t1] at t2
  exact obj_arr t2
section
variable {K : g_K} {W : c_W} {s e cap n : Nat} {T : List Nat} {h : g_P}
theorem k_ensure {need : Nat} (hb : k_b K ≤ s) (t : sbT K s e cap T h) (hn : need ≤ 71) : g_Met K mJ7_ensureCapacityInternal 3 1 150 [.ref s, .int (nI need)] h n (gV fun h' n' => ∃ e' cap', sbT K s e' cap' T h' ∧ need ≤ cap' ∧ (e' = e ∨ n ≤ e') ∧ e' < n' ∧ (∀ q : Nat, q < n → q ≠ s → h' q = h q) ∧ n ≤ n' ∧ n' ≤ n + 1) gN := by
  refine g_Met.facts fun f1 f2 f3 => ?_
  have t0 := t
  obtain ⟨⟨ml, t1⟩, R, t2, t3, t4, t5, t6⟩ := t
  have sn := f2 _ _ t1
  have en := f2 _ _ t2
  have hl : (byt (T ++ R)).length = cap := by rw [byt_len, List.length_append, t3]
  refine g_Met.of (M := mJ7_ensureCapacityInternal) (L := [some (.ref s), some (.int (nI need)), none]) (by decide +kernel) (Nat.le_of_ble_eq_true rfl) rfl ?_
  refine r_aload0 dJ7_ensureCapacityInternal_0 ?_
  refine f_J7_15_J8 dJ7_ensureCapacityInternal_1 t1 ?_
  refine r_arraylength dJ7_ensureCapacityInternal_4 ga_B t2 (by rw [hl]) ?_
  refine r_aload0 dJ7_ensureCapacityInternal_5 ?_
  refine f_J7_22_J8 dJ7_ensureCapacityInternal_6 t1 ?_
  refine r_ishr dJ7_ensureCapacityInternal_9 (shr0 _) ?_
  refine r_istore2 dJ7_ensureCapacityInternal_10 ?_
  refine r_iload1 dJ7_ensureCapacityInternal_11 ?_
  refine r_iload2 dJ7_ensureCapacityInternal_12 ?_
  refine r_isub dJ7_ensureCapacityInternal_13 rfl ?_
  refine r_if_le (tgt := 38) dJ7_ensureCapacityInternal_14 (by decide) (fun c14 => ?_) (fun c14 => ?_)
  · exact r_return dJ7_ensureCapacityInternal_38 rfl (⟨e, cap, t0, by have := mt (df_gt (x := need) (y := cap) (by omega) (by omega)).mpr (Int32.not_lt.mpr c14); omega, Or.inl rfl, en, fun q _ _ => rfl, Nat.le_refl _, Nat.le_succ _⟩)
  · have hc : cap < need := (df_gt (x := need) (y := cap) (by omega) (by omega)).mp (Int32.not_le.mp c14)
    refine r_aload0 dJ7_ensureCapacityInternal_17 ?_
    refine r_aload0 dJ7_ensureCapacityInternal_18 ?_
    refine f_J7_15_J8 dJ7_ensureCapacityInternal_19 t1 ?_
    refine r_aload0 dJ7_ensureCapacityInternal_22 ?_
    refine r_iload1 dJ7_ensureCapacityInternal_23 ?_
    refine r_callVP (M' := mJ7_newCapacity) _ dJ7_ensureCapacityInternal_24 q568 q570 q569 q602 ⟨by decide, by decide⟩ rfl (lw_all_tbl q571) q134 (by exact pl_J7_newCapacity) gc_J8 t1 ((k_newCapacity t0 hc (by omega))) (by omega) (Nat.le_of_ble_eq_true rfl) (by omega) (by omega) rfl (Nat.le_of_ble_eq_true rfl) rfl (kI fun r24 h24 n24 e24 => ?_) kN
    obtain ⟨q9, q8, q7⟩ := e24; have q9 := q9.symm; have q8 := q8.symm; have q7 := q7.symm; subst q9; subst q8; subst q7
    refine r_aload0 dJ7_ensureCapacityInternal_27 ?_
    refine f_J7_22_J8 dJ7_ensureCapacityInternal_28 t1 ?_
    refine r_ishl dJ7_ensureCapacityInternal_31 (shl0 _) ?_
    refine r_callS (M' := mJ29_copyOf) _ dJ7_ensureCapacityInternal_32 q583 q584 rfl (lw_all_tbl q585) q162 (by exact pl_J29_copyOf)  ((k_copyOfB (m := cap + max (need - cap) (cap + 2)) t2 t6 (by rw [List.length_append]; omega) (by omega))) (by omega) (Nat.le_of_ble_eq_true rfl) (by omega) (by omega) rfl (Nat.le_of_ble_eq_true rfl) rfl (kA fun r32 h32 n32 t32 e32 => ?_) kN
    obtain ⟨q9, q8, q7⟩ := e32; have q9 := q9.symm; have q8 := q8.symm; have q7 := q7.symm; subst q9; subst q8; subst q7
    refine p_J7_15_J8 dJ7_ensureCapacityInternal_35 (by omega) (by rw [g_un (by omega)]; exact t1) ?_
    exact r_return dJ7_ensureCapacityInternal_38 rfl (⟨n, cap + max (need - cap) (cap + 2), ⟨⟨ml, g_us⟩, R ++ List.replicate (cap + max (need - cap) (cap + 2) - (T ++ R).length) 0, by rw [g_un (by omega), g_us, List.append_assoc], by rw [List.length_append, List.length_replicate, List.length_append]; omega, by omega, f1, fun c hc2 => by
        rw [← List.append_assoc] at hc2
        rcases List.mem_append.mp hc2 with z | z
        · exact t6 c z
        · have := List.eq_of_mem_replicate z; omega⟩, by omega, Or.inr (Nat.le_refl _), Nat.lt_succ_self n, fun q h1 h2 => by rw [g_un h2, g_un (by omega)], Nat.le_succ n, Nat.le_refl _⟩)
theorem k_isLatin7 (w0 : cOK K W) {vs : Value} {ml ct : Int32} (ho : h s = some (g_ob 20 [vs, .int (nI 0), .int ml, .int ct])) : g_Met K mJ7_isLatin1 0 0 0 [.ref s] h n (gI fun r h' n' => r = nI 1 ∧ h' = h ∧ n' = n) gN := by
  refine g_Met.of (M := mJ7_isLatin1) (L := [some (.ref s)]) (by decide +kernel) (Nat.le_of_ble_eq_true rfl) rfl ?_
  refine r_getstatic dJ7_isLatin1_0 w0.2.2.2.2.1 q348 (Or.inl rfl) ?_
  refine r_if_eqN (tgt := 17) dJ7_isLatin1_3 (by decide) (by omega) (fun c3 => absurd c3 (by omega)) (fun c3 => ?_)
  refine r_aload0 dJ7_isLatin1_6 ?_
  refine f_J7_22_J8 dJ7_isLatin1_7 ho ?_
  refine r_if_neN (tgt := 17) dJ7_isLatin1_10 (by decide) (by omega) (fun c10 => absurd c10 (by omega)) (fun c10 => ?_)
  refine r_iconst (v := nI 1) dJ7_isLatin1_13 (by decide) ?_
  refine r_goto (tgt := 18) dJ7_isLatin1_14 (by decide) ?_
  exact r_ireturn dJ7_isLatin1_18 rfl (by first | exact nB_nar | rfl) (⟨rfl, rfl, rfl⟩)
theorem k_canEncode {c : Nat} (hc : c < 128) : g_Met K mJ15_canEncode 0 0 0 [.int (nI c)] h n (gI fun r h' n' => r = nI 1 ∧ h' = h ∧ n' = n) gN := by
  refine g_Met.of (M := mJ15_canEncode) (L := [some (.int (nI c))]) (by decide +kernel) (Nat.le_of_ble_eq_true rfl) rfl ?_
  refine r_iload0 dJ15_canEncode_0 ?_
  refine r_sipush (v := nI 255) dJ15_canEncode_1 (by decide) ?_
  refine r_icmp_gtN (tgt := 11) dJ15_canEncode_4 (by decide) (by omega) (by omega) (fun c4 => absurd c4 (by omega)) (fun c4 => ?_)
  refine r_iconst (v := nI 1) dJ15_canEncode_7 (by decide) ?_
  refine r_goto (tgt := 12) dJ15_canEncode_8 (by decide) ?_
  exact r_ireturn dJ15_canEncode_12 rfl (by first | exact nB_nar | rfl) (⟨rfl, rfl, rfl⟩)
theorem k_J7_append3 {c : Nat} (w0 : cOK K W) (hb : k_b K ≤ s) (t : sbT K s e cap T h) (hc : c < 128) (hn : T.length < 71) : g_Met K mJ7_append_3 4 1 150 [.ref s, .int (nI c)] h n (gA fun r h' n' => r = .ref s ∧ sbP K s e (T ++ [c]) h n h' n') gN := by
  refine g_Met.facts fun f1 f2 f3 => ?_
  have tn := t.ne
  obtain ⟨ml0, t1⟩ := t.1
  have sn := f2 _ _ t1
  refine g_Met.of (M := mJ7_append_3) (L := [some (.ref s), some (.int (nI c))]) (by decide +kernel) (Nat.le_of_ble_eq_true rfl) rfl ?_
  refine r_aload0 dJ7_append_3_0 ?_
  refine r_aload0 dJ7_append_3_1 ?_
  refine f_J7_79_J8 dJ7_append_3_2 t1 ?_
  refine r_iconst (v := nI 1) dJ7_append_3_5 (by decide) ?_
  refine r_iadd dJ7_append_3_6 (nI_add _ _) ?_
  refine r_callVP (M' := mJ7_ensureCapacityInternal) _ dJ7_append_3_7 q564 q566 q565 q602 ⟨by decide, by decide⟩ rfl (lw_all_tbl q567) q134 (by exact pl_J7_ensureCapacityInternal) gc_J8 t1 ((k_ensure hb t (by omega))) (by omega) (Nat.le_of_ble_eq_true rfl) (by omega) (by omega) rfl (Nat.le_of_ble_eq_true rfl) rfl (kV fun h7 n7 e7 => ?_) kN
  obtain ⟨e', cap', t', z1, z2, z3, z4, z5, z6⟩ := e7
  have t0 := t'
  have tn' := t'.ne
  obtain ⟨⟨ml, t1'⟩, R, t2, t3, t4, t5, t6⟩ := t'
  obtain ⟨r0, R', rfl⟩ : ∃ r0 R', R = r0 :: R' := by
    cases R with
    | nil => simp at t3; omega
    | cons r0 R' => exact ⟨r0, R', rfl⟩
  refine r_aload0 dJ7_append_3_10 ?_
  refine r_callVU (M' := mJ7_isLatin1) _ dJ7_append_3_11 q599 q601 (Or.inl ⟨q600, _, _, _, q603⟩) ⟨by decide, by decide⟩ q602 q600 rfl (lw_all_tbl q603) q134 (by exact (⟨by decide, by decide, by decide +kernel⟩ : g_pl ⟨"java/lang/AbstractStringBuilder", "isLatin1", "()Z"⟩ 0)) gc_J8 t1' ((k_isLatin7 w0 t1')) (by omega) (Nat.le_of_ble_eq_true rfl) (by omega) (by omega) rfl (Nat.le_of_ble_eq_true rfl) rfl (kI fun r11 h11 n11 e11 => ?_) kN
  obtain ⟨q9, q8, q7⟩ := e11; have q9 := q9.symm; have q8 := q8.symm; have q7 := q7.symm; subst q9; subst q8; subst q7
  refine r_if_eqN (tgt := 45) dJ7_append_3_14 (by decide) (by omega) (fun c14 => absurd c14 (by omega)) (fun c14 => ?_)
  refine r_iload1 dJ7_append_3_17 ?_
  refine r_callS (M' := mJ15_canEncode) _ dJ7_append_3_18 q2908 q2909 rfl (lw_all_tbl q2910) q147 (by exact pl_J15_canEncode)  ((k_canEncode hc)) (by omega) (Nat.le_of_ble_eq_true rfl) (by omega) (by omega) rfl (Nat.le_of_ble_eq_true rfl) rfl (kI fun r18 h18 n18 e18 => ?_) kN
  obtain ⟨q9, q8, q7⟩ := e18; have q9 := q9.symm; have q8 := q8.symm; have q7 := q7.symm; subst q9; subst q8; subst q7
  refine r_if_eqN (tgt := 45) dJ7_append_3_21 (by decide) (by omega) (fun c21 => absurd c21 (by omega)) (fun c21 => ?_)
  refine r_aload0 dJ7_append_3_24 ?_
  refine f_J7_15_J8 dJ7_append_3_25 t1' ?_
  refine r_aload0 dJ7_append_3_28 ?_
  refine r_dup dJ7_append_3_29 ?_
  refine f_J7_79_J8 dJ7_append_3_30 t1' ?_
  refine r_dup_x1 dJ7_append_3_33 ?_
  refine r_iconst (v := nI 1) dJ7_append_3_34 (by decide) ?_
  refine r_iadd dJ7_append_3_35 (nI_add _ _) ?_
  refine p_J7_79_J8 dJ7_append_3_36 (by omega) t1' ?_
  refine r_iload1 dJ7_append_3_39 ?_
  refine r_i2b dJ7_append_3_40 (i2b_c hc) ?_
  refine r_bastore (T.length) dJ7_append_3_41 (by omega) (by rw [g_un tn']; exact t2) rfl (by omega) (by rw [byt_len, List.length_append, List.length_cons]; omega) (fit_b hc).1 ?_
  refine r_goto (tgt := 75) dJ7_append_3_42 (by decide) ?_
  refine r_aload0 dJ7_append_3_75 ?_
  exact r_areturn dJ7_append_3_76 rfl (Or.inl ⟨_, rfl⟩) (Or.inr ⟨_, rfl⟩) (⟨rfl, e', cap', ⟨⟨ml, by rw [g_un (Ne.symm tn'), g_us, List.length_append]; rfl⟩, R', by rw [g_us, byt_set, List.set_append_right _ _ (by omega), Nat.sub_self, List.append_assoc]; rfl, by rw [List.length_append]; simp at t3 ⊢; omega, t4, t5, fun c2 hc2 => by
      simp only [List.mem_append, List.mem_cons, List.not_mem_nil, or_false] at hc2 t6
      rcases hc2 with (z | z) | z
      · exact t6 c2 (Or.inl z)
      · rw [z]; exact hc
      · exact t6 c2 (Or.inr (Or.inr z))⟩, z2, z3, fun q h1 h2 h3 => by rw [g_un (by rcases z2 with z2 | z2; rw [z2]; exact h3; omega), g_un h2]; exact z4 q h1 h2, z5, z6⟩)
theorem k_appendC {c : Nat} (w0 : cOK K W) (hb : k_b K ≤ s) (t : sbT K s e cap T h) (hc : c < 128) (hn : T.length < 71) : g_Met K mJ8_append_4 5 1 150 [.ref s, .int (nI c)] h n (gA fun r h' n' => r = .ref s ∧ sbP K s e (T ++ [c]) h n h' n') gN := by
  obtain ⟨ml0, t1⟩ := t.1
  refine g_Met.of (M := mJ8_append_4) (L := [some (.ref s), some (.int (nI c))]) (by decide +kernel) (Nat.le_of_ble_eq_true rfl) rfl ?_
  refine r_aload0 dJ8_append_4_0 ?_
  refine r_iload1 dJ8_append_4_1 ?_
  refine r_callSU (M' := mJ7_append_3) _ dJ8_append_4_2 q2905 q4022 q370 q2906 (by decide) rfl (lw_all_tbl q2907) q134 (by exact pl_J7_append_3) gc_J8 t1 ((k_J7_append3 w0 hb t hc hn)) (by omega) (Nat.le_of_ble_eq_true rfl) (by omega) (by omega) rfl (Nat.le_of_ble_eq_true rfl) rfl (kA fun r2 h2 n2 t2 e2 => ?_) kN
  obtain ⟨rfl, z1⟩ := e2
  refine r_pop dJ8_append_4_5 ?_
  refine r_aload0 dJ8_append_4_6 ?_
  exact r_areturn dJ8_append_4_7 rfl (Or.inl ⟨_, rfl⟩) (Or.inr ⟨_, rfl⟩) (⟨rfl, z1⟩)
/-! Strings -/
variable {a b : Nat} {S : List Nat}
theorem k_coder (w0 : cOK K W) (t : strT a b S h) : g_Met K mJ9_coder 0 0 0 [.ref a] h n (gI fun r h' n' => r = nI 0 ∧ h' = h ∧ n' = n) gN := by
  obtain ⟨⟨x, y, t1⟩, t2, t3⟩ := t
  refine g_Met.of (M := mJ9_coder) (L := [some (.ref a)]) (by decide +kernel) (Nat.le_of_ble_eq_true rfl) rfl ?_
  refine r_getstatic dJ9_coder_0 w0.2.2.2.2.1 q638 (Or.inl rfl) ?_
  refine r_if_eqN (tgt := 13) dJ9_coder_3 (by decide) (by omega) (fun c3 => absurd c3 (by omega)) (fun c3 => ?_)
  refine r_aload0 dJ9_coder_6 ?_
  refine f_J9_15_J9 dJ9_coder_7 t1 ?_
  refine r_goto (tgt := 14) dJ9_coder_10 (by decide) ?_
  exact r_ireturn dJ9_coder_14 rfl rfl (⟨rfl, rfl, rfl⟩)
theorem k_strLen (w0 : cOK K W) (t : strT a b S h) (hl : S.length < 1000) : g_Met K mJ9_length 1 0 0 [.ref a] h n (gI fun r h' n' => r = nI S.length ∧ h' = h ∧ n' = n) gN := by
  have t0 := t
  obtain ⟨⟨x, y, t1⟩, t2, t3⟩ := t
  refine g_Met.of (M := mJ9_length) (L := [some (.ref a)]) (by decide +kernel) (Nat.le_of_ble_eq_true rfl) rfl ?_
  refine r_aload0 dJ9_length_0 ?_
  refine f_J9_9_J9 dJ9_length_1 t1 ?_
  refine r_arraylength dJ9_length_4 ga_B t2 (by rw [byt_len]) ?_
  refine r_aload0 dJ9_length_5 ?_
  refine r_callV (M' := mJ9_coder) _ dJ9_length_6 q634 q635 q636 rfl (lw_all_tbl q637) q136 (by exact pl_J9_coder) gc_J9 t1 ((k_coder w0 t0)) (by omega) (Nat.le_of_ble_eq_true rfl) (by omega) (by omega) rfl (Nat.le_of_ble_eq_true rfl) rfl (kI fun r6 h6 n6 e6 => ?_) kN
  obtain ⟨q9, q8, q7⟩ := e6; have q9 := q9.symm; have q8 := q8.symm; have q7 := q7.symm; subst q9; subst q8; subst q7
  refine r_ishr dJ9_length_9 (shr0 _) ?_
  exact r_ireturn dJ9_length_10 rfl rfl (⟨rfl, rfl, rfl⟩)
theorem k_inflateFor (w0 : cOK K W) {vs : Value} {ml ct : Int32} (ho : h s = some (g_ob 20 [vs, .int (nI 0), .int ml, .int ct])) (t : strT a b S h) : g_Met K mJ7_inflateIfNeededFor 1 0 0 [.ref s, .ref a] h n (gV fun h' n' => h' = h ∧ n' = n) gN := by
  have t0 := t
  obtain ⟨⟨x, y, t1⟩, t2, t3⟩ := t
  refine g_Met.of (M := mJ7_inflateIfNeededFor) (L := [some (.ref s), some (.ref a)]) (by decide +kernel) (Nat.le_of_ble_eq_true rfl) rfl ?_
  refine r_getstatic dJ7_inflateIfNeededFor_0 w0.2.2.2.2.1 q348 (Or.inl rfl) ?_
  refine r_if_eqN (tgt := 21) dJ7_inflateIfNeededFor_3 (by decide) (by omega) (fun c3 => absurd c3 (by omega)) (fun c3 => ?_)
  refine r_aload0 dJ7_inflateIfNeededFor_6 ?_
  refine f_J7_22_J8 dJ7_inflateIfNeededFor_7 ho ?_
  refine r_aload1 dJ7_inflateIfNeededFor_10 ?_
  refine r_callV (M' := mJ9_coder) _ dJ7_inflateIfNeededFor_11 q647 q635 q636 rfl (lw_all_tbl q637) q136 (by exact pl_J9_coder) gc_J9 t1 ((k_coder w0 t0)) (by omega) (Nat.le_of_ble_eq_true rfl) (by omega) (by omega) rfl (Nat.le_of_ble_eq_true rfl) rfl (kI fun r11 h11 n11 e11 => ?_) kN
  obtain ⟨q9, q8, q7⟩ := e11; have q9 := q9.symm; have q8 := q8.symm; have q7 := q7.symm; subst q9; subst q8; subst q7
  refine r_icmp_eqN (tgt := 21) dJ7_inflateIfNeededFor_14 (by decide) (by omega) (by omega) (fun c14 => ?_) (fun c14 => absurd c14 (by omega))
  exact r_return dJ7_inflateIfNeededFor_21 rfl (⟨rfl, rfl⟩)
theorem k_getBytes {d j : Nat} {B : List Nat} (w0 : cOK K W) (t : strT a b S h) (hd : k_b K ≤ d) (ho : h d = some (g_ar 4 (byt B))) (hj : j + S.length ≤ B.length) (hB : B.length < 1000) : g_Met K mJ9_getBytes 1 0 0 [.ref a, .ref d, .int (nI j), .int (nI 0)] h n (gV fun h' n' => h' = g_up h d (g_ar 4 (byt (B.take j ++ (S ++ B.drop (j + S.length))))) ∧ n' = n) gN := by
  have t0 := t
  obtain ⟨⟨x, y, t1⟩, t2, t3⟩ := t
  refine g_Met.of (M := mJ9_getBytes) (L := [some (.ref a), some (.ref d), some (.int (nI j)), some (.int (nI 0))]) (by decide +kernel) (Nat.le_of_ble_eq_true rfl) rfl ?_
  refine r_aload0 dJ9_getBytes_0 ?_
  refine r_callV (M' := mJ9_coder) _ dJ9_getBytes_1 q634 q635 q636 rfl (lw_all_tbl q637) q136 (by exact pl_J9_coder) gc_J9 t1 ((k_coder w0 t0)) (by omega) (Nat.le_of_ble_eq_true rfl) (by omega) (by omega) rfl (Nat.le_of_ble_eq_true rfl) rfl (kI fun r1 h1 n1 e1 => ?_) kN
  obtain ⟨q9, q8, q7⟩ := e1; have q9 := q9.symm; have q8 := q8.symm; have q7 := q7.symm; subst q9; subst q8; subst q7
  refine r_iload3 dJ9_getBytes_4 ?_
  refine r_icmp_neN (tgt := 28) dJ9_getBytes_5 (by decide) (by omega) (by omega) (fun c5 => absurd c5 (by omega)) (fun c5 => ?_)
  refine r_aload0 dJ9_getBytes_8 ?_
  refine f_J9_9_J9 dJ9_getBytes_9 t1 ?_
  refine r_iconst (v := nI 0) dJ9_getBytes_12 (by decide) ?_
  refine r_aload1 dJ9_getBytes_13 ?_
  refine r_iload2 dJ9_getBytes_14 ?_
  refine r_iload3 dJ9_getBytes_15 ?_
  refine r_ishl dJ9_getBytes_16 (shl0 _) ?_
  refine r_aload0 dJ9_getBytes_17 ?_
  refine f_J9_9_J9 dJ9_getBytes_18 t1 ?_
  refine r_arraylength dJ9_getBytes_21 ga_B t2 (by rw [byt_len]) ?_
  refine r_acopy (ty := .byte) 0 j S.length dJ9_getBytes_22 q671 ga_B hd t2 ho rfl rfl rfl (by omega) (by omega) (by omega) (by rw [byt_len]; omega) (by rw [byt_len]; omega) q598 q597 q163 (by omega) rfl (Nat.le_of_ble_eq_true rfl) (fun s H comp hKN hR hcomp v hv => ?_) ?_
  · obtain ⟨c, hc, rfl⟩ := List.mem_map.mp (List.mem_of_mem_drop (List.mem_of_mem_take hv))
    exact ⟨(fit_b (t3 c hc)).2, trivial⟩
  refine r_goto (tgt := 43) dJ9_getBytes_25 (by decide) ?_
  exact r_return dJ9_getBytes_43 rfl (⟨by rw [byt_cpy, List.drop_zero, List.take_length], rfl⟩)
theorem k_putStringAt {R : List Nat} {ml ct : Int32} (w0 : cOK K W) (he : k_b K ≤ e) (t1 : h s = some (g_ob 20 [.ref e, .int (nI 0), .int ml, .int ct])) (t2 : h e = some (g_ar 4 (byt (T ++ R)))) (tS : strT a b S h) (hl : S.length ≤ R.length) (hB : T.length + R.length < 1000) : g_Met K mJ7_putStringAt 2 0 0 [.ref s, .int (nI T.length), .ref a] h n (gV fun h' n' => h' = g_up h e (g_ar 4 (byt (T ++ (S ++ R.drop S.length)))) ∧ n' = n) gN := by
  obtain ⟨⟨x, y, tS1⟩, -⟩ := id tS
  refine g_Met.of (M := mJ7_putStringAt) (L := [some (.ref s), some (.int (nI T.length)), some (.ref a)]) (by decide +kernel) (Nat.le_of_ble_eq_true rfl) rfl ?_
  refine r_aload0 dJ7_putStringAt_0 ?_
  refine r_aload2 dJ7_putStringAt_1 ?_
  refine r_callVP (M' := mJ7_inflateIfNeededFor) _ dJ7_putStringAt_2 q643 q645 q644 q602 ⟨by decide, by decide⟩ rfl (lw_all_tbl q646) q134 (by exact pl_J7_inflateIfNeededFor) gc_J8 t1 ((k_inflateFor w0 t1 tS)) (by omega) (Nat.le_of_ble_eq_true rfl) (by omega) (by omega) rfl (Nat.le_of_ble_eq_true rfl) rfl (kV fun h2 n2 e2 => ?_) kN
  obtain ⟨q8, q7⟩ := e2; have q8 := q8.symm; have q7 := q7.symm; subst q8; subst q7
  refine r_aload2 dJ7_putStringAt_5 ?_
  refine r_aload0 dJ7_putStringAt_6 ?_
  refine f_J7_15_J8 dJ7_putStringAt_7 t1 ?_
  refine r_iload1 dJ7_putStringAt_10 ?_
  refine r_aload0 dJ7_putStringAt_11 ?_
  refine f_J7_22_J8 dJ7_putStringAt_12 t1 ?_
  refine r_callV (M' := mJ9_getBytes) _ dJ7_putStringAt_15 q667 q668 q669 rfl (lw_all_tbl q670) q136 (by exact pl_J9_getBytes) gc_J9 tS1 ((k_getBytes (B := T ++ R) (j := T.length) w0 tS he t2 (by rw [List.length_append]; omega) (by rw [List.length_append]; omega))) (by omega) (Nat.le_of_ble_eq_true rfl) (by omega) (by omega) rfl (Nat.le_of_ble_eq_true rfl) rfl (kV fun h15 n15 e15 => ?_) kN
  obtain ⟨q8, q7⟩ := e15; have q8 := q8.symm; have q7 := q7.symm; subst q8; subst q7
  exact r_return dJ7_putStringAt_18 rfl (⟨by rw [List.take_left' rfl, List.drop_append, List.drop_eq_nil_of_le (Nat.le_add_right _ _), Nat.add_sub_cancel_left, List.nil_append], rfl⟩)
theorem k_J7_append (w0 : cOK K W) (hb : k_b K ≤ s) (t : sbT K s e cap T h) (tS : strT a b S h) (hn : T.length + S.length ≤ 71) (as : a ≠ s) : g_Met K mJ7_append 4 1 150 [.ref s, .ref a] h n (gA fun r h' n' => r = .ref s ∧ sbP K s e (T ++ S) h n h' n') gN := by
  refine g_Met.facts fun f1 f2 f3 => ?_
  have tn := t.ne
  obtain ⟨ml0, t1⟩ := t.1
  have sn := f2 _ _ t1
  obtain ⟨⟨x, y, tS1⟩, tS2, tS3⟩ := id tS
  have an := f2 _ _ tS1
  have bn := f2 _ _ tS2
  have bs : b ≠ s := fun z => by rw [z, t1] at tS2; exact obj_arr tS2
  refine g_Met.of (M := mJ7_append) (L := [some (.ref s), some (.ref a), none]) (by decide +kernel) (Nat.le_of_ble_eq_true rfl) rfl ?_
  refine r_aload1 dJ7_append_0 ?_
  refine r_ifnonnull (tgt := 9) dJ7_append_1 (by decide) ?_
  refine r_aload1 dJ7_append_9 ?_
  refine r_callV (M' := mJ9_length) _ dJ7_append_10 q630 q631 q632 rfl (lw_all_tbl q633) q136 (by exact pl_J9_length) gc_J9 tS1 ((k_strLen w0 tS (by omega))) (by omega) (Nat.le_of_ble_eq_true rfl) (by omega) (by omega) rfl (Nat.le_of_ble_eq_true rfl) rfl (kI fun r10 h10 n10 e10 => ?_) kN
  obtain ⟨q9, q8, q7⟩ := e10; have q9 := q9.symm; have q8 := q8.symm; have q7 := q7.symm; subst q9; subst q8; subst q7
  refine r_istore2 dJ7_append_13 ?_
  refine r_aload0 dJ7_append_14 ?_
  refine r_aload0 dJ7_append_15 ?_
  refine f_J7_79_J8 dJ7_append_16 t1 ?_
  refine r_iload2 dJ7_append_19 ?_
  refine r_iadd dJ7_append_20 (nI_add _ _) ?_
  refine r_callVP (M' := mJ7_ensureCapacityInternal) _ dJ7_append_21 q564 q566 q565 q602 ⟨by decide, by decide⟩ rfl (lw_all_tbl q567) q134 (by exact pl_J7_ensureCapacityInternal) gc_J8 t1 ((k_ensure hb t (by omega))) (by omega) (Nat.le_of_ble_eq_true rfl) (by omega) (by omega) rfl (Nat.le_of_ble_eq_true rfl) rfl (kV fun h21 n21 e21 => ?_) kN
  obtain ⟨e', cap', t', z1, z2, z3, z4, z5, z6⟩ := e21
  have t0 := t'
  have tn' := t'.ne
  obtain ⟨⟨ml, t1'⟩, R, t2, t3, t4, t5, t6⟩ := t'
  have tS' := tS.of (z4 _ an as) (z4 _ bn bs)
  refine r_aload0 dJ7_append_24 ?_
  refine r_aload0 dJ7_append_25 ?_
  refine f_J7_79_J8 dJ7_append_26 t1' ?_
  refine r_aload1 dJ7_append_29 ?_
  refine r_callVP (M' := mJ7_putStringAt) _ dJ7_append_30 q639 q641 q640 q602 ⟨by decide, by decide⟩ rfl (lw_all_tbl q642) q134 (by exact pl_J7_putStringAt) gc_J8 t1' ((k_putStringAt (R := R) w0 t5 t1' t2 tS' (by omega) (by omega))) (by omega) (Nat.le_of_ble_eq_true rfl) (by omega) (by omega) rfl (Nat.le_of_ble_eq_true rfl) rfl (kV fun h30 n30 e30 => ?_) kN
  obtain ⟨q8, q7⟩ := e30; have q8 := q8.symm; have q7 := q7.symm; subst q8; subst q7
  refine r_aload0 dJ7_append_33 ?_
  refine r_dup dJ7_append_34 ?_
  refine f_J7_79_J8 dJ7_append_35 (by rw [g_un (Ne.symm tn')]; exact t1') ?_
  refine r_iload2 dJ7_append_38 ?_
  refine r_iadd dJ7_append_39 (nI_add _ _) ?_
  refine p_J7_79_J8 dJ7_append_40 (by omega) (by rw [g_un (Ne.symm tn')]; exact t1') ?_
  refine r_aload0 dJ7_append_43 ?_
  exact r_areturn dJ7_append_44 rfl (Or.inl ⟨_, rfl⟩) (Or.inr ⟨_, rfl⟩) (⟨rfl, e', cap', ⟨⟨ml, by rw [g_us, List.length_append]⟩, R.drop S.length, by rw [g_un tn', g_us, List.append_assoc], by rw [List.length_append, List.length_drop]; omega, t4, t5, fun c2 hc2 => by
      rw [List.append_assoc] at hc2
      rcases List.mem_append.mp hc2 with z | z
      · exact t6 c2 (List.mem_append.mpr (Or.inl z))
      · rcases List.mem_append.mp z with z | z
        · exact tS3 c2 z
        · exact t6 c2 (List.mem_append.mpr (Or.inr (List.mem_of_mem_drop z)))⟩, z2, z3, fun q h1 h2 h3 => by rw [g_un h2, g_un (by rcases z2 with z2 | z2; rw [z2]; exact h3; omega)]; exact z4 q h1 h2, z5, z6⟩)
theorem k_appendS (w0 : cOK K W) (hb : k_b K ≤ s) (t : sbT K s e cap T h) (tS : strT a b S h) (hn : T.length + S.length ≤ 71) (as : a ≠ s) : g_Met K mJ8_append 5 1 150 [.ref s, .ref a] h n (gA fun r h' n' => r = .ref s ∧ sbP K s e (T ++ S) h n h' n') gN := by
  obtain ⟨ml0, t1⟩ := t.1
  refine g_Met.of (M := mJ8_append) (L := [some (.ref s), some (.ref a)]) (by decide +kernel) (Nat.le_of_ble_eq_true rfl) rfl ?_
  refine r_aload0 dJ8_append_0 ?_
  refine r_aload1 dJ8_append_1 ?_
  refine r_callSU (M' := mJ7_append) _ dJ8_append_2 q557 q4001 q370 q558 (by decide) rfl (lw_all_tbl q559) q134 (by exact pl_J7_append) gc_J8 t1 ((k_J7_append w0 hb t tS hn as)) (by omega) (Nat.le_of_ble_eq_true rfl) (by omega) (by omega) rfl (Nat.le_of_ble_eq_true rfl) rfl (kA fun r2 h2 n2 t2 e2 => ?_) kN
  obtain ⟨rfl, z1⟩ := e2
  refine r_pop dJ8_append_5 ?_
  refine r_aload0 dJ8_append_6 ?_
  exact r_areturn dJ8_append_7 rfl (Or.inl ⟨_, rfl⟩) (Or.inr ⟨_, rfl⟩) (⟨rfl, z1⟩)
theorem k_J7_length (t : sbT K s e cap T h) : g_Met K mJ7_length 0 0 0 [.ref s] h n (gI fun r h' n' => r = nI T.length ∧ h' = h ∧ n' = n) gN := by
  obtain ⟨ml0, t1⟩ := t.1
  refine g_Met.of (M := mJ7_length) (L := [some (.ref s)]) (by decide +kernel) (Nat.le_of_ble_eq_true rfl) rfl ?_
  refine r_aload0 dJ7_length_0 ?_
  refine f_J7_79_J8 dJ7_length_1 t1 ?_
  exact r_ireturn dJ7_length_4 rfl rfl (⟨rfl, rfl, rfl⟩)
theorem k_sbLen (t : sbT K s e cap T h) : g_Met K mJ8_length 1 0 0 [.ref s] h n (gI fun r h' n' => r = nI T.length ∧ h' = h ∧ n' = n) gN := by
  obtain ⟨ml0, t1⟩ := t.1
  refine g_Met.of (M := mJ8_length) (L := [some (.ref s)]) (by decide +kernel) (Nat.le_of_ble_eq_true rfl) rfl ?_
  refine r_aload0 dJ8_length_0 ?_
  refine r_callSU (M' := mJ7_length) _ dJ8_length_1 q723 q719 q370 q718 (by decide) rfl (lw_all_tbl q724) q134 (by exact pl_J7_length) gc_J8 t1 ((k_J7_length t)) (by omega) (Nat.le_of_ble_eq_true rfl) (by omega) (by omega) rfl (Nat.le_of_ble_eq_true rfl) rfl (kI fun r1 h1 n1 e1 => ?_) kN
  obtain ⟨q9, q8, q7⟩ := e1; have q9 := q9.symm; have q8 := q8.symm; have q7 := q7.symm; subst q9; subst q8; subst q7
  exact r_ireturn dJ8_length_4 rfl rfl (⟨rfl, rfl, rfl⟩)
end
