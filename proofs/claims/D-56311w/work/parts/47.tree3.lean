/-! TreeMap: lookups, insertions -/
set_option maxRecDepth 100000
/-- a key's number: an Integer (b true), or a Remainder -/
def kyc (b : Bool) (h : g_P) (x : Value) (z : Int) : Prop := ∃ a : Nat, x = .ref a ∧ ((b = true ∧ ∃ i : Nat, i < 2147483648 ∧ h a = some (g_ob 23 [.int (nI i)]) ∧ z = (i : Int)) ∨ (b = false ∧ ∃ l r : Nat, l < 8 ∧ r < 2147483648 ∧ h a = some (g_ob 8 [.int (nI l), .int (nI r)]) ∧ z = (l : Int) - 8 * (r : Int)))
theorem cmI_S {i j : Nat} (hi : i < 2147483648) (hj : j < 2147483648) : cmpS (cmI (nI i) (nI j)) i j := by
  unfold cmI
  by_cases h1 : i < j
  · rw [if_pos ((nI_ltI hi hj).mpr h1)]
    exact Or.inl ⟨rfl, by omega⟩
  · rw [if_neg (fun z => h1 ((nI_ltI hi hj).mp z))]
    by_cases h2 : i = j
    · rw [if_pos (by rw [h2])]
      exact Or.inr (Or.inl ⟨rfl, by omega⟩)
    · rw [if_neg (fun z => h2 ((nI_eq hi hj).mp z))]
      exact Or.inr (Or.inr ⟨rfl, by omega⟩)
section
variable {K : g_K} {a n : Nat} {h : g_P}
theorem k_X10_compareTo_2 {b l r l2 r2 : Nat} (h1 : l < 8) (h2 : r < 2147483648) (h3 : l2 < 8) (h4 : r2 < 2147483648) (ho : h a = some (g_ob 8 [.int (nI l), .int (nI r)])) (ho2 : h b = some (g_ob 8 [.int (nI l2), .int (nI r2)])) : g_Met K mX10_compareTo_2 1 0 0 [.ref a, .ref b] h n (gI fun x h' n' => cmpS x ((l : Int) - 8 * (r : Int)) ((l2 : Int) - 8 * (r2 : Int)) ∧ h' = h ∧ n' = n) gN := by
  refine g_Met.of (M := mX10_compareTo_2) (L := [some (.ref a), some (.ref b)]) (by decide +kernel) (Nat.le_of_ble_eq_true rfl) rfl ?_
  refine r_aload0 dX10_compareTo_2_0 ?_
  refine f_X10_13_X10 dX10_compareTo_2_1 (by first | assumption | exact g_us | (rw [g_un (by omega)]; assumption) | (rw [g_un (by omega)]; exact g_us) | (rw [g_un (by omega), g_un (by omega)]; assumption) | (rw [g_un (by omega), g_un (by omega)]; exact g_us) | (rw [g_un (by omega), g_un (by omega), g_un (by omega)]; assumption) | ((repeat (rw [g_un (by omega)])); first | exact g_us | assumption)) ?_
  refine r_aload1 dX10_compareTo_2_4 ?_
  refine f_X10_13_X10 dX10_compareTo_2_5 (by first | assumption | exact g_us | (rw [g_un (by omega)]; assumption) | (rw [g_un (by omega)]; exact g_us) | (rw [g_un (by omega), g_un (by omega)]; assumption) | (rw [g_un (by omega), g_un (by omega)]; exact g_us) | (rw [g_un (by omega), g_un (by omega), g_un (by omega)]; assumption) | ((repeat (rw [g_un (by omega)])); first | exact g_us | assumption)) ?_
  refine r_icmp_neN (tgt := 25) dX10_compareTo_2_8 (by decide) (by omega) (by omega) (fun c8 => ?_) (fun c8 => ?_)
  · refine r_aload1 dX10_compareTo_2_25 ?_
    refine f_X10_13_X10 dX10_compareTo_2_26 (by first | assumption | exact g_us | (rw [g_un (by omega)]; assumption) | (rw [g_un (by omega)]; exact g_us) | (rw [g_un (by omega), g_un (by omega)]; assumption) | (rw [g_un (by omega), g_un (by omega)]; exact g_us) | (rw [g_un (by omega), g_un (by omega), g_un (by omega)]; assumption) | ((repeat (rw [g_un (by omega)])); first | exact g_us | assumption)) ?_
    refine r_aload0 dX10_compareTo_2_29 ?_
    refine f_X10_13_X10 dX10_compareTo_2_30 (by first | assumption | exact g_us | (rw [g_un (by omega)]; assumption) | (rw [g_un (by omega)]; exact g_us) | (rw [g_un (by omega), g_un (by omega)]; assumption) | (rw [g_un (by omega), g_un (by omega)]; exact g_us) | (rw [g_un (by omega), g_un (by omega), g_un (by omega)]; assumption) | ((repeat (rw [g_un (by omega)])); first | exact g_us | assumption)) ?_
    refine r_callS (M' := mJ14_compare) _ dX10_compareTo_2_33 q1026 q993 rfl (lw_all_tbl q994) q144 (by exact pl_J14_compare)  (k_compare) (by omega) (Nat.le_of_ble_eq_true rfl) (by omega) (by omega) rfl (Nat.le_of_ble_eq_true rfl) rfl (kI fun r33 h33 n33 e33 => ?_) kN
    obtain ⟨rfl, rfl, rfl⟩ := e33
    exact r_ireturn dX10_compareTo_2_36 rfl rfl (⟨(by rcases cmI_S h4 h2 with ⟨e, q⟩ | ⟨e, q⟩ | ⟨e, q⟩ <;> rw [e] <;> first | exact Or.inl ⟨rfl, by omega⟩ | exact Or.inr (Or.inl ⟨rfl, by omega⟩) | exact Or.inr (Or.inr ⟨rfl, by omega⟩)), rfl, rfl⟩)
  · refine r_aload0 dX10_compareTo_2_11 ?_
    refine f_X10_7_X10 dX10_compareTo_2_12 (by first | assumption | exact g_us | (rw [g_un (by omega)]; assumption) | (rw [g_un (by omega)]; exact g_us) | (rw [g_un (by omega), g_un (by omega)]; assumption) | (rw [g_un (by omega), g_un (by omega)]; exact g_us) | (rw [g_un (by omega), g_un (by omega), g_un (by omega)]; assumption) | ((repeat (rw [g_un (by omega)])); first | exact g_us | assumption)) ?_
    refine r_aload1 dX10_compareTo_2_15 ?_
    refine f_X10_7_X10 dX10_compareTo_2_16 (by first | assumption | exact g_us | (rw [g_un (by omega)]; assumption) | (rw [g_un (by omega)]; exact g_us) | (rw [g_un (by omega), g_un (by omega)]; assumption) | (rw [g_un (by omega), g_un (by omega)]; exact g_us) | (rw [g_un (by omega), g_un (by omega), g_un (by omega)]; assumption) | ((repeat (rw [g_un (by omega)])); first | exact g_us | assumption)) ?_
    refine r_callS (M' := mJ14_compare) _ dX10_compareTo_2_19 q1026 q993 rfl (lw_all_tbl q994) q144 (by exact pl_J14_compare)  (k_compare) (by omega) (Nat.le_of_ble_eq_true rfl) (by omega) (by omega) rfl (Nat.le_of_ble_eq_true rfl) rfl (kI fun r19 h19 n19 e19 => ?_) kN
    obtain ⟨rfl, rfl, rfl⟩ := e19
    refine r_goto (tgt := 36) dX10_compareTo_2_22 (by decide) ?_
    exact r_ireturn dX10_compareTo_2_36 rfl rfl (⟨(by rcases cmI_S (i := l) (j := l2) (by omega) (by omega) with ⟨e, q⟩ | ⟨e, q⟩ | ⟨e, q⟩ <;> rw [e] <;> first | exact Or.inl ⟨rfl, by omega⟩ | exact Or.inr (Or.inl ⟨rfl, by omega⟩) | exact Or.inr (Or.inr ⟨rfl, by omega⟩)), rfl, rfl⟩)
theorem k_X10_compareTo {b l r l2 r2 : Nat} (h1 : l < 8) (h2 : r < 2147483648) (h3 : l2 < 8) (h4 : r2 < 2147483648) (ho : h a = some (g_ob 8 [.int (nI l), .int (nI r)])) (ho2 : h b = some (g_ob 8 [.int (nI l2), .int (nI r2)])) : g_Met K mX10_compareTo 2 0 0 [.ref a, .ref b] h n (gI fun x h' n' => cmpS x ((l : Int) - 8 * (r : Int)) ((l2 : Int) - 8 * (r2 : Int)) ∧ h' = h ∧ n' = n) gN := by
  refine g_Met.of (M := mX10_compareTo) (L := [some (.ref a), some (.ref b)]) (by decide +kernel) (Nat.le_of_ble_eq_true rfl) rfl ?_
  refine r_aload0 dX10_compareTo_0 ?_
  refine r_aload1 dX10_compareTo_1 ?_
  refine r_checkcast dX10_compareTo_2 gc_X10 q1021 (Or.inl rfl) (by first | assumption | exact g_us | (rw [g_un (by omega)]; assumption) | (rw [g_un (by omega)]; exact g_us) | (rw [g_un (by omega), g_un (by omega)]; assumption) | (rw [g_un (by omega), g_un (by omega)]; exact g_us) | (rw [g_un (by omega), g_un (by omega), g_un (by omega)]; assumption) | ((repeat (rw [g_un (by omega)])); first | exact g_us | assumption)) ?_
  refine r_callV (M' := mX10_compareTo_2) _ dX10_compareTo_5 q1022 q1023 q1024 rfl (lw_all_tbl q1025) q180 (by exact pl_X10_compareTo_2) gc_X10 (by first | assumption | exact g_us | (rw [g_un (by omega)]; assumption) | (rw [g_un (by omega)]; exact g_us) | (rw [g_un (by omega), g_un (by omega)]; assumption) | (rw [g_un (by omega), g_un (by omega)]; exact g_us) | (rw [g_un (by omega), g_un (by omega), g_un (by omega)]; assumption) | ((repeat (rw [g_un (by omega)])); first | exact g_us | assumption)) ((k_X10_compareTo_2 h1 h2 h3 h4 ho ho2)) (by omega) (Nat.le_of_ble_eq_true rfl) (by omega) (by omega) rfl (Nat.le_of_ble_eq_true rfl) rfl (kI fun r5 h5 n5 e5 => ?_) kN
  obtain ⟨e5, rfl, rfl⟩ := e5
  exact r_ireturn dX10_compareTo_8 rfl rfl (⟨e5, rfl, rfl⟩)
theorem k_J1_init (hb : k_b K ≤ a) (ho : h a = some (g_ob 17 [.null, .null, .null, .null, .int (nI 0), .int (nI 0), .null, .null, .null])) : g_Met K mJ1_init 2 0 0 [.ref a] h n (gV fun h' n' => tm K a [] (nI 0) .null h' ∧ (∀ q : Nat, q ≠ a → h' q = h q) ∧ n' = n) gN := by
  refine g_Met.of (M := mJ1_init) (L := [some (.ref a)]) (by decide +kernel) (Nat.le_of_ble_eq_true rfl) rfl ?_
  refine r_aload0 dJ1_init_0 ?_
  refine r_callI (M' := mJ0_init) _ dJ1_init_1 q213 q214 rfl rfl rfl (lw_all_tbl q215) q127 (by exact pl_J0_init)  (k_J0_init) (by omega) (Nat.le_of_ble_eq_true rfl) (by omega) (by omega) rfl (Nat.le_of_ble_eq_true rfl) rfl (kV fun h1 n1 e1 => ?_) kN
  obtain ⟨rfl, rfl, rfl⟩ := e1
  refine r_aload0 dJ1_init_4 ?_
  refine r_iconst (v := nI 0) dJ1_init_5 (by decide) ?_
  refine p_J1_7_J1 dJ1_init_6 (by omega) (by first | assumption | exact g_us | (rw [g_un (by omega)]; assumption) | (rw [g_un (by omega)]; exact g_us) | (rw [g_un (by omega), g_un (by omega)]; assumption) | (rw [g_un (by omega), g_un (by omega)]; exact g_us) | (rw [g_un (by omega), g_un (by omega), g_un (by omega)]; assumption) | ((repeat (rw [g_un (by omega)])); first | exact g_us | assumption)) ?_
  refine r_aload0 dJ1_init_9 ?_
  refine r_iconst (v := nI 0) dJ1_init_10 (by decide) ?_
  refine p_J1_13_J1 dJ1_init_11 (by omega) g_us ?_
  refine r_aload0 dJ1_init_14 ?_
  refine r_null dJ1_init_15 ?_
  refine p_J1_16_J1 dJ1_init_16 (by omega) g_us ?_
  exact r_return dJ1_init_19 rfl (⟨⟨⟨.null, g_us, sg.nil, fun x kk v l r q c e1 => by cases e1⟩, by simp, fun z hz => by (simp at hz), fun z hz => by (simp at hz)⟩, fun q hq => by rw [g_un hq, g_un hq, g_un hq], rfl⟩)
theorem k_J1_size {L : List c_N} {mc : Int32} {nk : Value} (T : tm K a L mc nk h) : g_Met K mJ1_size 0 0 0 [.ref a] h n (gI fun r h' n' => r = nI L.length ∧ h' = h ∧ n' = n) gN := by
  obtain ⟨⟨t, e1, s, b⟩, -⟩ := T
  refine g_Met.of (M := mJ1_size) (L := [some (.ref a)]) (by decide +kernel) (Nat.le_of_ble_eq_true rfl) rfl ?_
  refine r_aload0 dJ1_size_0 ?_
  refine f_J1_7_J1 dJ1_size_1 (by first | assumption | exact g_us | (rw [g_un (by omega)]; assumption) | (rw [g_un (by omega)]; exact g_us) | (rw [g_un (by omega), g_un (by omega)]; assumption) | (rw [g_un (by omega), g_un (by omega)]; exact g_us) | (rw [g_un (by omega), g_un (by omega), g_un (by omega)]; assumption) | ((repeat (rw [g_un (by omega)])); first | exact g_us | assumption)) ?_
  exact r_ireturn dJ1_size_4 rfl rfl (⟨rfl, rfl, rfl⟩)
theorem k_getEntry {b : Bool} {mp x : Nat} {L1 L2 : List c_N} {mc : Int32} {nk kk v : Value} {ky : Value → Int} (T : tm K mp (L1 ++ (a, kk, v) :: L2) mc nk h) (hk : ∀ z ∈ L1 ++ (a, kk, v) :: L2, kyc b h z.2.1 (ky z.2.1)) (s1 : ∀ z ∈ L1, ky z.2.1 < ky kk) (s2 : ∀ z ∈ L2, ky kk < ky z.2.1) (kx : kyc b h (.ref x) (ky kk)) : g_Met K mJ1_getEntry 4 0 0 [.ref mp, .ref x] h n (gA fun r h' n' => r = .ref a ∧ h' = h ∧ n' = n) gN := by
  obtain ⟨⟨t, hm, ⟨f0, sN⟩, -⟩, -⟩ := T
  have loop : ∀ (f : Nat) (M1 M2 : List c_N) (y q : Value) (o4 : Option Value), seg h f (M1 ++ (a, kk, v) :: M2) y q → (∀ z ∈ M1, z ∈ L1) → (∀ z ∈ M2, z ∈ L2) → g_G K mJ1_getEntry 4 0 0 (gA fun r h' n' => r = .ref a ∧ h' = h ∧ n' = n) gN 28 [some (.ref mp), some (.ref x), some (.ref x), some y, o4] [] h n := by
    intro f
    induction f with
    | zero => intro M1 M2 y q o4 s; obtain ⟨e, -⟩ := s; simp at e
    | succ f ih =>
      intro M1 M2 y q o4 s i1 i2
      rcases s with ⟨e, -⟩ | ⟨U, V, c, kb, vb, l, r, cc, eL, rfl, ec, sl, sr⟩
      · simp at e
      · have hcm : (c, kb, vb) ∈ M1 ++ (a, kk, v) :: M2 := by rw [eL]; simp
        have hcN : (c, kb, vb) ∈ L1 ++ (a, kk, v) :: L2 := by
          rcases List.mem_append.mp hcm with z | z
          · simp [i1 _ z]
          · rcases List.mem_cons.mp z with z | z
            · simp [z]
            · simp [i2 _ z]
        have kb9 := hk _ hcN
        have cont : ∀ rr : Int32, cmpS rr (ky kk) (ky kb) → g_G K mJ1_getEntry 4 0 0 (gA fun r h' n' => r = .ref a ∧ h' = h ∧ n' = n) gN 42 [some (.ref mp), some (.ref x), some (.ref x), some (.ref c), o4] [.int rr] h n := by
          intro rr hr
          rcases List.append_eq_append_iff.mp eL with ⟨Y, rfl, e2⟩ | ⟨Y, rfl, e2⟩
          · cases Y with
            | nil =>
              simp only [List.nil_append, List.cons.injEq, Prod.mk.injEq] at e2
              obtain ⟨⟨rfl, rfl, rfl⟩, rfl⟩ := e2
              rcases hr with ⟨-, hr⟩ | ⟨rfl, -⟩ | ⟨-, hr⟩
              · omega
              · skip
                refine r_istore4 dJ1_getEntry_42 ?_
                refine r_iload4 dJ1_getEntry_44 ?_
                refine r_if_geN (tgt := 57) dJ1_getEntry_46 (by decide) (by omega) (fun c46 => ?_) (fun c46 => absurd c46 (by omega))
                refine r_iload4 dJ1_getEntry_57 ?_
                refine r_if_leN (tgt := 70) dJ1_getEntry_59 (by decide) (by omega) (fun c59 => ?_) (fun c59 => absurd c59 (by omega))
                refine r_aload3 dJ1_getEntry_70 ?_
                exact r_areturn dJ1_getEntry_71 rfl (Or.inl ⟨_, rfl⟩) (Or.inr ⟨_, rfl⟩) (⟨rfl, rfl, rfl⟩)
              · omega
            | cons w Y =>
              simp only [List.cons_append, List.cons.injEq] at e2
              obtain ⟨rfl, rfl⟩ := e2
              have h9 := s2 _ (i2 (c, kb, vb) (by simp))
              rcases hr with ⟨rfl, -⟩ | ⟨-, hr⟩ | ⟨-, hr⟩
              · have hl : l = .null ∨ ∃ z, l = .ref z := sg.vr ⟨f, sl⟩
                have k28 := fun o4 => ih M1 Y l (.ref c) o4 sl i1 (fun z hz => i2 z (by simp [hz]))
                rcases hl with rfl | ⟨z, rfl⟩
                · exact absurd (sg.null ⟨f, sl⟩) (by simp)
                · skip
                  refine r_istore4 dJ1_getEntry_42 ?_
                  refine r_iload4 dJ1_getEntry_44 ?_
                  refine r_if_ge (tgt := 57) dJ1_getEntry_46 (by decide) (fun c46 => absurd c46 ((by decide))) (fun c46 => ?_)
                  refine r_aload3 dJ1_getEntry_49 ?_
                  refine f_J1_111_J21 dJ1_getEntry_50 (by first | assumption | exact g_us | (rw [g_un (by omega)]; assumption) | (rw [g_un (by omega)]; exact g_us) | (rw [g_un (by omega), g_un (by omega)]; assumption) | (rw [g_un (by omega), g_un (by omega)]; exact g_us) | (rw [g_un (by omega), g_un (by omega), g_un (by omega)]; assumption) | ((repeat (rw [g_un (by omega)])); first | exact g_us | assumption)) ?_
                  refine r_astore3 dJ1_getEntry_53 ?_
                  refine r_goto (tgt := 72) dJ1_getEntry_54 (by decide) ?_
                  refine r_goto (tgt := 28) dJ1_getEntry_72 (by decide) ?_
                  exact k28 _
              · dsimp only at h9; omega
              · dsimp only at h9; omega
          · cases Y with
            | nil =>
              simp only [List.nil_append, List.cons.injEq, Prod.mk.injEq] at e2
              obtain ⟨⟨rfl, rfl, rfl⟩, rfl⟩ := e2
              rcases hr with ⟨-, hr⟩ | ⟨rfl, -⟩ | ⟨-, hr⟩
              · omega
              · skip
                refine r_istore4 dJ1_getEntry_42 ?_
                refine r_iload4 dJ1_getEntry_44 ?_
                refine r_if_geN (tgt := 57) dJ1_getEntry_46 (by decide) (by omega) (fun c46 => ?_) (fun c46 => absurd c46 (by omega))
                refine r_iload4 dJ1_getEntry_57 ?_
                refine r_if_leN (tgt := 70) dJ1_getEntry_59 (by decide) (by omega) (fun c59 => ?_) (fun c59 => absurd c59 (by omega))
                refine r_aload3 dJ1_getEntry_70 ?_
                exact r_areturn dJ1_getEntry_71 rfl (Or.inl ⟨_, rfl⟩) (Or.inr ⟨_, rfl⟩) (⟨rfl, rfl, rfl⟩)
              · omega
            | cons w Y =>
              simp only [List.cons_append, List.cons.injEq] at e2
              obtain ⟨rfl, rfl⟩ := e2
              have h9 := s1 _ (i1 (c, kb, vb) (by simp))
              rcases hr with ⟨-, hr⟩ | ⟨-, hr⟩ | ⟨rfl, -⟩
              · dsimp only at h9; omega
              · dsimp only at h9; omega
              · have hl : r = .null ∨ ∃ z, r = .ref z := sg.vr ⟨f, sr⟩
                have k28 := fun o4 => ih Y M2 r (.ref c) o4 sr (fun z hz => i1 z (by simp [hz])) i2
                rcases hl with rfl | ⟨z, rfl⟩
                · exact absurd (sg.null ⟨f, sr⟩) (by simp)
                · skip
                  refine r_istore4 dJ1_getEntry_42 ?_
                  refine r_iload4 dJ1_getEntry_44 ?_
                  refine r_if_geN (tgt := 57) dJ1_getEntry_46 (by decide) (by omega) (fun c46 => ?_) (fun c46 => absurd c46 (by omega))
                  refine r_iload4 dJ1_getEntry_57 ?_
                  refine r_if_leN (tgt := 70) dJ1_getEntry_59 (by decide) (by omega) (fun c59 => absurd c59 (by omega)) (fun c59 => ?_)
                  refine r_aload3 dJ1_getEntry_62 ?_
                  refine f_J1_114_J21 dJ1_getEntry_63 (by first | assumption | exact g_us | (rw [g_un (by omega)]; assumption) | (rw [g_un (by omega)]; exact g_us) | (rw [g_un (by omega), g_un (by omega)]; assumption) | (rw [g_un (by omega), g_un (by omega)]; exact g_us) | (rw [g_un (by omega), g_un (by omega), g_un (by omega)]; assumption) | ((repeat (rw [g_un (by omega)])); first | exact g_us | assumption)) ?_
                  refine r_astore3 dJ1_getEntry_66 ?_
                  refine r_goto (tgt := 72) dJ1_getEntry_67 (by decide) ?_
                  refine r_goto (tgt := 28) dJ1_getEntry_72 (by decide) ?_
                  exact k28 _
        obtain ⟨x', e1, kx⟩ := kx
        cases e1
        obtain ⟨kb1, e2, kb9⟩ := kb9
        dsimp only at e2
        subst e2
        rcases kx with ⟨rfl, i, hi, ei, ez⟩ | ⟨rfl, l8, r8, hl8, hr8, ei, ez⟩
        · rcases kb9 with ⟨-, i', hi', ei', ez'⟩ | ⟨e, -⟩
          · dsimp only at ez'
            refine r_aload3 dJ1_getEntry_28 ?_
            refine r_ifnull dJ1_getEntry_29 ?_
            refine r_aload2 dJ1_getEntry_32 ?_
            refine r_aload3 dJ1_getEntry_33 ?_
            refine f_J1_105_J21 dJ1_getEntry_34 (by first | assumption | exact g_us | (rw [g_un (by omega)]; assumption) | (rw [g_un (by omega)]; exact g_us) | (rw [g_un (by omega), g_un (by omega)]; assumption) | (rw [g_un (by omega), g_un (by omega)]; exact g_us) | (rw [g_un (by omega), g_un (by omega), g_un (by omega)]; assumption) | ((repeat (rw [g_un (by omega)])); first | exact g_us | assumption)) ?_
            refine r_callF (M' := mJ14_compareTo) _ dJ1_getEntry_37 q1815 q1002 q1001 rfl q1028 q1030 q1031 q1029 q1027 rfl (lw_all_tbl q1032) q144 (by exact (⟨by decide, by decide, by decide +kernel⟩ : g_pl ⟨"java/lang/Comparable", "compareTo", "(Ljava/lang/Object;)I"⟩ 1)) gc_J14 ei ((k_J14_compareTo ei ei')) (by omega) (Nat.le_of_ble_eq_true rfl) (by omega) (by omega) rfl (Nat.le_of_ble_eq_true rfl) rfl (kI fun r37 h37 n37 e37 => ?_) kN
            obtain ⟨rfl, rfl, rfl⟩ := e37
            exact cont _ (by rw [ez, ez']; exact cmI_S hi hi')
          · cases e
        · rcases kb9 with ⟨e, -⟩ | ⟨-, l9, r9, hl9, hr9, ei', ez'⟩
          · cases e
          · dsimp only at ez'
            refine r_aload3 dJ1_getEntry_28 ?_
            refine r_ifnull dJ1_getEntry_29 ?_
            refine r_aload2 dJ1_getEntry_32 ?_
            refine r_aload3 dJ1_getEntry_33 ?_
            refine f_J1_105_J21 dJ1_getEntry_34 (by first | assumption | exact g_us | (rw [g_un (by omega)]; assumption) | (rw [g_un (by omega)]; exact g_us) | (rw [g_un (by omega), g_un (by omega)]; assumption) | (rw [g_un (by omega), g_un (by omega)]; exact g_us) | (rw [g_un (by omega), g_un (by omega), g_un (by omega)]; assumption) | ((repeat (rw [g_un (by omega)])); first | exact g_us | assumption)) ?_
            refine r_callF (M' := mX10_compareTo) _ dJ1_getEntry_37 q1815 q1002 q1001 rfl q1016 q1018 q1019 q1017 q1015 rfl (lw_all_tbl q1020) q180 (by exact (⟨by decide, by decide, by decide +kernel⟩ : g_pl ⟨"java/lang/Comparable", "compareTo", "(Ljava/lang/Object;)I"⟩ 1)) gc_X10 ei ((k_X10_compareTo hl8 hr8 hl9 hr9 ei ei')) (by omega) (Nat.le_of_ble_eq_true rfl) (by omega) (by omega) rfl (Nat.le_of_ble_eq_true rfl) rfl (kI fun r37 h37 n37 e37 => ?_) kN
            obtain ⟨e37, rfl, rfl⟩ := e37
            exact cont _ (by rw [ez, ez']; exact e37)
  have ht : t = .null ∨ ∃ z, t = .ref z := sg.vr ⟨f0, sN⟩
  rcases ht with rfl | ⟨z, rfl⟩
  · exact absurd (sg.null ⟨f0, sN⟩) (by simp)
  · have kx0 := kx
    obtain ⟨x', e1, kx⟩ := kx
    cases e1
    rcases kx with ⟨rfl, i, hi, ei, ez⟩ | ⟨rfl, l8, r8, hl8, hr8, ei, ez⟩
    · skip
      refine g_Met.of (M := mJ1_getEntry) (L := [some (.ref mp), some (.ref x), none, none, none]) (by decide +kernel) (Nat.le_of_ble_eq_true rfl) rfl ?_
      refine r_aload0 dJ1_getEntry_0 ?_
      refine f_J1_16_J1 dJ1_getEntry_1 (by first | assumption | exact g_us | (rw [g_un (by omega)]; assumption) | (rw [g_un (by omega)]; exact g_us) | (rw [g_un (by omega), g_un (by omega)]; assumption) | (rw [g_un (by omega), g_un (by omega)]; exact g_us) | (rw [g_un (by omega), g_un (by omega), g_un (by omega)]; assumption) | ((repeat (rw [g_un (by omega)])); first | exact g_us | assumption)) ?_
      refine r_ifnullZ (tgt := 13) dJ1_getEntry_4 (by decide) ?_
      refine r_aload1 dJ1_getEntry_13 ?_
      refine r_callS (M' := mJ22_requireNonNull) _ dJ1_getEntry_14 q1810 q1811 rfl (lw_all_tbl q1812) q155 (by exact pl_J22_requireNonNull)  (k_requireNonNull) (by omega) (Nat.le_of_ble_eq_true rfl) (by omega) (by omega) rfl (Nat.le_of_ble_eq_true rfl) rfl (kA fun r14 h14 n14 t14 e14 => ?_) kN
      obtain ⟨rfl, rfl, rfl⟩ := e14
      refine r_pop dJ1_getEntry_17 ?_
      refine r_aload1 dJ1_getEntry_18 ?_
      refine r_checkcast dJ1_getEntry_19 gc_J14 q1813 (Or.inr q1027) ei ?_
      refine r_astore2 dJ1_getEntry_22 ?_
      refine r_aload0 dJ1_getEntry_23 ?_
      refine f_J1_101_J1 dJ1_getEntry_24 (by first | assumption | exact g_us | (rw [g_un (by omega)]; assumption) | (rw [g_un (by omega)]; exact g_us) | (rw [g_un (by omega), g_un (by omega)]; assumption) | (rw [g_un (by omega), g_un (by omega)]; exact g_us) | (rw [g_un (by omega), g_un (by omega), g_un (by omega)]; assumption) | ((repeat (rw [g_un (by omega)])); first | exact g_us | assumption)) ?_
      refine r_astore3 dJ1_getEntry_27 ?_
      exact loop f0 L1 L2 _ _ _ sN (fun z hz => hz) (fun z hz => hz)
    · skip
      refine g_Met.of (M := mJ1_getEntry) (L := [some (.ref mp), some (.ref x), none, none, none]) (by decide +kernel) (Nat.le_of_ble_eq_true rfl) rfl ?_
      refine r_aload0 dJ1_getEntry_0 ?_
      refine f_J1_16_J1 dJ1_getEntry_1 (by first | assumption | exact g_us | (rw [g_un (by omega)]; assumption) | (rw [g_un (by omega)]; exact g_us) | (rw [g_un (by omega), g_un (by omega)]; assumption) | (rw [g_un (by omega), g_un (by omega)]; exact g_us) | (rw [g_un (by omega), g_un (by omega), g_un (by omega)]; assumption) | ((repeat (rw [g_un (by omega)])); first | exact g_us | assumption)) ?_
      refine r_ifnullZ (tgt := 13) dJ1_getEntry_4 (by decide) ?_
      refine r_aload1 dJ1_getEntry_13 ?_
      refine r_callS (M' := mJ22_requireNonNull) _ dJ1_getEntry_14 q1810 q1811 rfl (lw_all_tbl q1812) q155 (by exact pl_J22_requireNonNull)  (k_requireNonNull) (by omega) (Nat.le_of_ble_eq_true rfl) (by omega) (by omega) rfl (Nat.le_of_ble_eq_true rfl) rfl (kA fun r14 h14 n14 t14 e14 => ?_) kN
      obtain ⟨rfl, rfl, rfl⟩ := e14
      refine r_pop dJ1_getEntry_17 ?_
      refine r_aload1 dJ1_getEntry_18 ?_
      refine r_checkcast dJ1_getEntry_19 gc_X10 q1813 (Or.inr q1015) ei ?_
      refine r_astore2 dJ1_getEntry_22 ?_
      refine r_aload0 dJ1_getEntry_23 ?_
      refine f_J1_101_J1 dJ1_getEntry_24 (by first | assumption | exact g_us | (rw [g_un (by omega)]; assumption) | (rw [g_un (by omega)]; exact g_us) | (rw [g_un (by omega), g_un (by omega)]; assumption) | (rw [g_un (by omega), g_un (by omega)]; exact g_us) | (rw [g_un (by omega), g_un (by omega), g_un (by omega)]; assumption) | ((repeat (rw [g_un (by omega)])); first | exact g_us | assumption)) ?_
      refine r_astore3 dJ1_getEntry_27 ?_
      exact loop f0 L1 L2 _ _ _ sN (fun z hz => hz) (fun z hz => hz)
theorem k_get {b : Bool} {mp x : Nat} {L1 L2 : List c_N} {mc : Int32} {nk kk v : Value} {ky : Value → Int} (T : tm K mp (L1 ++ (a, kk, v) :: L2) mc nk h) (hk : ∀ z ∈ L1 ++ (a, kk, v) :: L2, kyc b h z.2.1 (ky z.2.1)) (s1 : ∀ z ∈ L1, ky z.2.1 < ky kk) (s2 : ∀ z ∈ L2, ky kk < ky z.2.1) (kx : kyc b h (.ref x) (ky kk)) (hv : v = .null ∨ ∃ z, v = .ref z) : g_Met K mJ1_get 5 0 0 [.ref mp, .ref x] h n (gA fun r h' n' => r = v ∧ h' = h ∧ n' = n) gN := by
  have T0 := T
  obtain ⟨⟨t, hm, sN, -⟩, -⟩ := T
  obtain ⟨j, A1, A2, B1, B2, l, r, q, c, -, -, ea, -⟩ := sN.foc rfl (k := 0) (A := []) (B := []) (t := t) ⟨rfl, rfl, rfl, rfl⟩
  refine g_Met.of (M := mJ1_get) (L := [some (.ref mp), some (.ref x), none]) (by decide +kernel) (Nat.le_of_ble_eq_true rfl) rfl ?_
  refine r_aload0 dJ1_get_0 ?_
  refine r_aload1 dJ1_get_1 ?_
  refine r_callV (M' := mJ1_getEntry) _ dJ1_get_2 q1800 q1801 q1802 rfl (lw_all_tbl q1803) q128 (by exact pl_J1_getEntry) gc_J1 (by first | assumption | exact g_us | (rw [g_un (by omega)]; assumption) | (rw [g_un (by omega)]; exact g_us) | (rw [g_un (by omega), g_un (by omega)]; assumption) | (rw [g_un (by omega), g_un (by omega)]; exact g_us) | (rw [g_un (by omega), g_un (by omega), g_un (by omega)]; assumption) | ((repeat (rw [g_un (by omega)])); first | exact g_us | assumption)) ((k_getEntry T0 hk s1 s2 kx)) (by omega) (Nat.le_of_ble_eq_true rfl) (by omega) (by omega) rfl (Nat.le_of_ble_eq_true rfl) rfl (kA fun r2 h2 n2 t2 e2 => ?_) kN
  obtain ⟨rfl, rfl, rfl⟩ := e2
  refine r_astore2 dJ1_get_5 ?_
  refine r_aload2 dJ1_get_6 ?_
  refine r_ifnonnull (tgt := 14) dJ1_get_7 (by decide) ?_
  refine r_aload2 dJ1_get_14 ?_
  refine f_J1_58_J21 dJ1_get_15 (by first | assumption | exact g_us | (rw [g_un (by omega)]; assumption) | (rw [g_un (by omega)]; exact g_us) | (rw [g_un (by omega), g_un (by omega)]; assumption) | (rw [g_un (by omega), g_un (by omega)]; exact g_us) | (rw [g_un (by omega), g_un (by omega), g_un (by omega)]; assumption) | ((repeat (rw [g_un (by omega)])); first | exact g_us | assumption)) ?_
  exact r_areturn dJ1_get_18 rfl (Or.inl ⟨_, rfl⟩) hv (⟨rfl, rfl, rfl⟩)
theorem k_cmp1 {b : Bool} {mp x : Nat} {z : Int} {mc : Int32} {nk : Value} (T : tm K mp [] mc nk h) (kx : kyc b h (.ref x) z) : g_Met K mJ1_compare 4 0 0 [.ref mp, .ref x, .ref x] h n (gI fun r h' n' => h' = h ∧ n' = n) gN := by
  obtain ⟨⟨t, hm, sN, -⟩, -⟩ := T
  obtain ⟨x', e1, kx⟩ := kx
  cases e1
  rcases kx with ⟨rfl, i, hi, ei, ez⟩ | ⟨rfl, l8, r8, hl8, hr8, ei, ez⟩
  · skip
    refine g_Met.of (M := mJ1_compare) (L := [some (.ref mp), some (.ref x), some (.ref x)]) (by decide +kernel) (Nat.le_of_ble_eq_true rfl) rfl ?_
    refine r_aload0 dJ1_compare_0 ?_
    refine f_J1_16_J1 dJ1_compare_1 (by first | assumption | exact g_us | (rw [g_un (by omega)]; assumption) | (rw [g_un (by omega)]; exact g_us) | (rw [g_un (by omega), g_un (by omega)]; assumption) | (rw [g_un (by omega), g_un (by omega)]; exact g_us) | (rw [g_un (by omega), g_un (by omega), g_un (by omega)]; assumption) | ((repeat (rw [g_un (by omega)])); first | exact g_us | assumption)) ?_
    refine r_ifnonnullZ dJ1_compare_4 ?_
    refine r_aload1 dJ1_compare_7 ?_
    refine r_checkcast dJ1_compare_8 gc_J14 q1813 (Or.inr q1027) ei ?_
    refine r_aload2 dJ1_compare_11 ?_
    refine r_callF (M' := mJ14_compareTo) _ dJ1_compare_12 q1815 q1002 q1001 rfl q1028 q1030 q1031 q1029 q1027 rfl (lw_all_tbl q1032) q144 (by exact (⟨by decide, by decide, by decide +kernel⟩ : g_pl ⟨"java/lang/Comparable", "compareTo", "(Ljava/lang/Object;)I"⟩ 1)) gc_J14 ei ((k_J14_compareTo ei ei)) (by omega) (Nat.le_of_ble_eq_true rfl) (by omega) (by omega) rfl (Nat.le_of_ble_eq_true rfl) rfl (kI fun r12 h12 n12 e12 => ?_) kN
    obtain ⟨rfl, rfl, rfl⟩ := e12
    refine r_goto (tgt := 31) dJ1_compare_17 (by decide) ?_
    exact r_ireturn dJ1_compare_31 rfl rfl (⟨rfl, rfl⟩)
  · skip
    refine g_Met.of (M := mJ1_compare) (L := [some (.ref mp), some (.ref x), some (.ref x)]) (by decide +kernel) (Nat.le_of_ble_eq_true rfl) rfl ?_
    refine r_aload0 dJ1_compare_0 ?_
    refine f_J1_16_J1 dJ1_compare_1 (by first | assumption | exact g_us | (rw [g_un (by omega)]; assumption) | (rw [g_un (by omega)]; exact g_us) | (rw [g_un (by omega), g_un (by omega)]; assumption) | (rw [g_un (by omega), g_un (by omega)]; exact g_us) | (rw [g_un (by omega), g_un (by omega), g_un (by omega)]; assumption) | ((repeat (rw [g_un (by omega)])); first | exact g_us | assumption)) ?_
    refine r_ifnonnullZ dJ1_compare_4 ?_
    refine r_aload1 dJ1_compare_7 ?_
    refine r_checkcast dJ1_compare_8 gc_X10 q1813 (Or.inr q1015) ei ?_
    refine r_aload2 dJ1_compare_11 ?_
    refine r_callF (M' := mX10_compareTo) _ dJ1_compare_12 q1815 q1002 q1001 rfl q1016 q1018 q1019 q1017 q1015 rfl (lw_all_tbl q1020) q180 (by exact (⟨by decide, by decide, by decide +kernel⟩ : g_pl ⟨"java/lang/Comparable", "compareTo", "(Ljava/lang/Object;)I"⟩ 1)) gc_X10 ei ((k_X10_compareTo hl8 hr8 hl8 hr8 ei ei)) (by omega) (Nat.le_of_ble_eq_true rfl) (by omega) (by omega) rfl (Nat.le_of_ble_eq_true rfl) rfl (kI fun r12 h12 n12 e12 => ?_) kN
    obtain ⟨-, rfl, rfl⟩ := e12
    refine r_goto (tgt := 31) dJ1_compare_17 (by decide) ?_
    exact r_ireturn dJ1_compare_31 rfl rfl (⟨rfl, rfl⟩)
end
