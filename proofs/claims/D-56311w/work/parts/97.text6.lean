/-! Strings: contains, equals, hashCode, charAt; a builder emptied -/
set_option maxRecDepth 100000
/-- S lies in V at i -/
def matA (V S : List Nat) (i : Nat) : Prop := ∀ k, k < S.length → V.getD (i + k) 0 = S.getD k 0
def infA (V S : List Nat) : Prop := ∃ i, i + S.length ≤ V.length ∧ matA V S i
theorem getD_at {L : List Nat} {j : Nat} (h : j < L.length) : (byt L)[j]? = some (.int (nI (L.getD j 0))) := by
  refine byt_at ?_
  rw [List.getD_eq_getElem?_getD, List.getElem?_eq_getElem h]
  rfl
theorem getD_lt {L : List Nat} {j : Nat} (h : ∀ c ∈ L, c < 128) : L.getD j 0 < 128 := by
  rw [List.getD_eq_getElem?_getD]
  cases q : L[j]? with
  | none => decide
  | some c => exact h c (List.mem_of_getElem? q)
section
variable {K : g_K} {W : c_W} {s e cap n a b c d : Nat} {T V S : List Nat} {h : g_P}
theorem k_indexOf2 (hV : h b = some (g_ar 4 (byt V))) (hS : h d = some (g_ar 4 (byt S))) (cV : ∀ c ∈ V, c < 128) (cS : ∀ c ∈ S, c < 128) (h1 : 1 ≤ S.length) (h2 : S.length ≤ V.length) (h3 : V.length < 1000) : g_Met K mJ15_indexOf_2 0 0 0 [.ref b, .int (nI V.length), .ref d, .int (nI S.length), .int (nI 0)] h n (gI fun r h' n' => ((∃ k, r = nI k ∧ k < 1000 ∧ infA V S) ∨ (r = -1 ∧ ¬ infA V S)) ∧ h' = h ∧ n' = n) gN := by
  have lV : ∀ j, V.getD j 0 < 128 := fun j => getD_lt cV
  have lS : ∀ j, S.getD j 0 < 128 := fun j => getD_lt cS
  have l0 := lS 0
  have main : ∀ (g i : Nat) (o8 o9 o10 : Option Value), V.length - S.length + 1 < i + g → g_c1 o8 → g_c1 o9 → g_c1 o10 → i ≤ V.length - S.length + 1 → (∀ i', i' < i → ¬ matA V S i') → g_G K mJ15_indexOf_2 0 0 0 (gI fun r h' n' => ((∃ k, r = nI k ∧ k < 1000 ∧ infA V S) ∨ (r = -1 ∧ ¬ infA V S)) ∧ h' = h ∧ n' = n) gN 14 [some (.ref b), some (.int (nI V.length)), some (.ref d), some (.int (nI S.length)), some (.int (nI 0)), some (.int (nI (S.getD 0 0))), some (.int (nI (V.length - S.length))), some (.int (nI i)), o8, o9, o10] [] h n := by
    intro g
    induction g with
    | zero => intro i o8 o9 o10 hg; omega
    | succ g ih =>
      intro i o8 o9 o10 hg c8 c9 c10 hi no
      -- the first sign fits, or the end is reached
      have at52 : ∀ (i2 : Nat), i ≤ i2 → i2 ≤ V.length - S.length + 1 → (∀ i', i' < i2 → ¬ matA V S i') → (i2 ≤ V.length - S.length → V.getD i2 0 = S.getD 0 0) → g_G K mJ15_indexOf_2 0 0 0 (gI fun r h' n' => ((∃ k, r = nI k ∧ k < 1000 ∧ infA V S) ∨ (r = -1 ∧ ¬ infA V S)) ∧ h' = h ∧ n' = n) gN 52 [some (.ref b), some (.int (nI V.length)), some (.ref d), some (.int (nI S.length)), some (.int (nI 0)), some (.int (nI (S.getD 0 0))), some (.int (nI (V.length - S.length))), some (.int (nI i2)), o8, o9, o10] [] h n := by
        intro i2 q1 q2 q3 q4
        have next : ∀ (o8 o9 o10 : Option Value), g_c1 o8 → g_c1 o9 → g_c1 o10 → (i2 ≤ V.length - S.length → ¬ matA V S i2) → g_G K mJ15_indexOf_2 0 0 0 (gI fun r h' n' => ((∃ k, r = nI k ∧ k < 1000 ∧ infA V S) ∨ (r = -1 ∧ ¬ infA V S)) ∧ h' = h ∧ n' = n) gN 113 [some (.ref b), some (.int (nI V.length)), some (.ref d), some (.int (nI S.length)), some (.int (nI 0)), some (.int (nI (S.getD 0 0))), some (.int (nI (V.length - S.length))), some (.int (nI i2)), o8, o9, o10] [] h n := by
          intro o8 o9 o10 c8 c9 c10 hno
          by_cases z : i2 ≤ V.length - S.length
          · skip
            refine r_iinc7 dJ15_indexOf_2_113 (ii1 _) ?_
            refine r_goto (tgt := 14) dJ15_indexOf_2_116 (by decide) ?_
            exact ih (i2 + 1) _ _ _ (by omega) c8 c9 c10 (by omega) (fun i' hi' => by
              by_cases e : i' = i2
              · rw [e]; exact hno z
              · exact q3 i' (by omega))
          · have e2 : i2 = V.length - S.length + 1 := by omega
            refine r_iinc7 dJ15_indexOf_2_113 (ii1 _) ?_
            refine r_goto (tgt := 14) dJ15_indexOf_2_116 (by decide) ?_
            refine r_iload7 dJ15_indexOf_2_14 ?_
            refine r_iload6 dJ15_indexOf_2_16 ?_
            refine r_icmp_gtN (tgt := 119) dJ15_indexOf_2_18 (by decide) (by omega) (by omega) (fun c18 => ?_) (fun c18 => absurd c18 (by omega))
            refine r_iconst (v := -1) dJ15_indexOf_2_119 (by decide) ?_
            exact r_ireturn dJ15_indexOf_2_120 rfl rfl (⟨Or.inr ⟨rfl, fun ⟨i', z1, z2⟩ => q3 i' (by omega) z2⟩, rfl, rfl⟩)
        have cmp : ∀ (f k : Nat), k + f = S.length → 1 ≤ k → i2 ≤ V.length - S.length → (∀ k', k' < k → V.getD (i2 + k') 0 = S.getD k' 0) → g_G K mJ15_indexOf_2 0 0 0 (gI fun r h' n' => ((∃ k, r = nI k ∧ k < 1000 ∧ infA V S) ∨ (r = -1 ∧ ¬ infA V S)) ∧ h' = h ∧ n' = n) gN 76 [some (.ref b), some (.int (nI V.length)), some (.ref d), some (.int (nI S.length)), some (.int (nI 0)), some (.int (nI (S.getD 0 0))), some (.int (nI (V.length - S.length))), some (.int (nI i2)), some (.int (nI (i2 + k))), some (.int (nI (i2 + S.length))), some (.int (nI k))] [] h n := by
          intro f
          induction f with
          | zero =>
            intro k hk k1 hm eq
            refine r_iload8 dJ15_indexOf_2_76 ?_
            refine r_iload9 dJ15_indexOf_2_78 ?_
            refine r_icmp_geN (tgt := 103) dJ15_indexOf_2_80 (by decide) (by omega) (by omega) (fun c80 => ?_) (fun c80 => absurd c80 (by omega))
            refine r_iload8 dJ15_indexOf_2_103 ?_
            refine r_iload9 dJ15_indexOf_2_105 ?_
            refine r_icmp_neN (tgt := 113) dJ15_indexOf_2_107 (by decide) (by omega) (by omega) (fun c107 => absurd c107 (by omega)) (fun c107 => ?_)
            refine r_iload7 dJ15_indexOf_2_110 ?_
            exact r_ireturn dJ15_indexOf_2_112 rfl rfl (⟨Or.inl ⟨i2, rfl, by omega, i2, by omega, fun k' hk' => eq k' (by omega)⟩, rfl, rfl⟩)
          | succ f ihf =>
            intro k hk k1 hm eq
            have e1 := lV (i2 + k)
            have e2 := lS k
            refine r_iload8 dJ15_indexOf_2_76 ?_
            refine r_iload9 dJ15_indexOf_2_78 ?_
            refine r_icmp_geN (tgt := 103) dJ15_indexOf_2_80 (by decide) (by omega) (by omega) (fun c80 => absurd c80 (by omega)) (fun c80 => ?_)
            refine r_aload0 dJ15_indexOf_2_83 ?_
            refine r_iload8 dJ15_indexOf_2_84 ?_
            refine r_baload ((i2 + k)) dJ15_indexOf_2_86 hV rfl (by omega) (getD_at (by omega)) ?_
            refine r_aload2 dJ15_indexOf_2_87 ?_
            refine r_iload10 dJ15_indexOf_2_88 ?_
            refine r_baload (k) dJ15_indexOf_2_90 hS rfl (by omega) (getD_at (by omega)) ?_
            refine r_icmp_neN (tgt := 103) dJ15_indexOf_2_91 (by decide) (by omega) (by omega) (fun c91 => ?_) (fun c91 => ?_)
            · refine r_iload8 dJ15_indexOf_2_103 ?_
              refine r_iload9 dJ15_indexOf_2_105 ?_
              refine r_icmp_neN (tgt := 113) dJ15_indexOf_2_107 (by decide) (by omega) (by omega) (fun c107 => ?_) (fun c107 => absurd c107 (by omega))
              exact next _ _ _ g_c1i g_c1i g_c1i (fun _ z => c91 (z k (by omega)))
            · refine r_iinc8 dJ15_indexOf_2_94 (show _ = nI (i2 + (k + 1)) from ii1 _) ?_
              refine r_iinc10 dJ15_indexOf_2_97 (ii1 _) ?_
              refine r_goto (tgt := 76) dJ15_indexOf_2_100 (by decide) ?_
              exact ihf (k + 1) (by omega) (by omega) hm (fun k' hk' => by
                by_cases z : k' = k
                · rw [z]; exact c91
                · exact eq k' (by omega))
        refine r_iload7 dJ15_indexOf_2_52 ?_
        refine r_iload6 dJ15_indexOf_2_54 ?_
        refine r_icmp_gtN (tgt := 113) dJ15_indexOf_2_56 (by decide) (by omega) (by omega) (fun c56 => ?_) (fun c56 => ?_)
        · exact next _ _ _ c8 c9 c10 (fun z => absurd z (by omega))
        · refine r_iload7 dJ15_indexOf_2_59 ?_
          refine r_iconst (v := nI 1) dJ15_indexOf_2_61 (by decide) ?_
          refine r_iadd dJ15_indexOf_2_62 (nI_add _ _) ?_
          refine r_istore8 dJ15_indexOf_2_63 ?_
          refine r_iload8 dJ15_indexOf_2_65 ?_
          refine r_iload3 dJ15_indexOf_2_67 ?_
          refine r_iadd dJ15_indexOf_2_68 (nI_add _ _) ?_
          refine r_iconst (v := nI 1) dJ15_indexOf_2_69 (by decide) ?_
          refine r_isub dJ15_indexOf_2_70 (show _ = nI (i2 + S.length) by rw [pk_sub (by omega)]; congr 1; omega) ?_
          refine r_istore9 dJ15_indexOf_2_71 ?_
          refine r_iconst (v := nI 1) dJ15_indexOf_2_73 (by decide) ?_
          refine r_istore10 dJ15_indexOf_2_74 ?_
          exact cmp (S.length - 1) 1 (by omega) (Nat.le_refl _) (by omega) (fun k' hk' => by
            have : k' = 0 := by omega
            rw [this]
            exact q4 (by omega))
      have at30 : ∀ (f i2 : Nat), V.length - S.length < i2 + f → i ≤ i2 → i2 ≤ V.length - S.length → (∀ i', i' < i2 + 1 → ¬ matA V S i') → g_G K mJ15_indexOf_2 0 0 0 (gI fun r h' n' => ((∃ k, r = nI k ∧ k < 1000 ∧ infA V S) ∨ (r = -1 ∧ ¬ infA V S)) ∧ h' = h ∧ n' = n) gN 30 [some (.ref b), some (.int (nI V.length)), some (.ref d), some (.int (nI S.length)), some (.int (nI 0)), some (.int (nI (S.getD 0 0))), some (.int (nI (V.length - S.length))), some (.int (nI i2)), o8, o9, o10] [] h n := by
        intro f
        induction f with
        | zero => intro i2 q1 q2 q3; omega
        | succ f ihf =>
          intro i2 q1 q2 q3 q4
          have e1 := lV (i2 + 1)
          refine r_iinc7 dJ15_indexOf_2_30 (ii1 _) ?_
          refine r_iload7 dJ15_indexOf_2_33 ?_
          refine r_iload6 dJ15_indexOf_2_35 ?_
          refine r_icmp_gtN (tgt := 52) dJ15_indexOf_2_37 (by decide) (by omega) (by omega) (fun c37 => ?_) (fun c37 => ?_)
          · exact at52 (i2 + 1) (by omega) (by omega) q4 (fun z => absurd z (by omega))
          · refine r_aload0 dJ15_indexOf_2_40 ?_
            refine r_iload7 dJ15_indexOf_2_41 ?_
            refine r_baload ((i2 + 1)) dJ15_indexOf_2_43 hV rfl (by omega) (getD_at (by omega)) ?_
            refine r_iload5 dJ15_indexOf_2_44 ?_
            refine r_icmp_eqN (tgt := 52) dJ15_indexOf_2_46 (by decide) (by omega) (by omega) (fun c46 => ?_) (fun c46 => ?_)
            · exact at52 (i2 + 1) (by omega) (by omega) q4 (fun _ => c46)
            · refine r_goto (tgt := 30) dJ15_indexOf_2_49 (by decide) ?_
              exact ihf (i2 + 1) (by omega) (by omega) (by omega) (fun i' hi' => by
                by_cases z : i' = i2 + 1
                · rw [z]; intro z2; exact c46 (z2 0 (by omega))
                · exact q4 i' (by omega))
      refine r_iload7 dJ15_indexOf_2_14 ?_
      refine r_iload6 dJ15_indexOf_2_16 ?_
      refine r_icmp_gtN (tgt := 119) dJ15_indexOf_2_18 (by decide) (by omega) (by omega) (fun c18 => ?_) (fun c18 => ?_)
      · refine r_iconst (v := -1) dJ15_indexOf_2_119 (by decide) ?_
        exact r_ireturn dJ15_indexOf_2_120 rfl rfl (⟨Or.inr ⟨rfl, fun ⟨i', z1, z2⟩ => no i' (by omega) z2⟩, rfl, rfl⟩)
      · refine r_aload0 dJ15_indexOf_2_21 ?_
        refine r_iload7 dJ15_indexOf_2_22 ?_
        refine r_baload (i) dJ15_indexOf_2_24 hV rfl (by omega) (getD_at (by omega)) ?_
        refine r_iload5 dJ15_indexOf_2_25 ?_
        refine r_icmp_eqN (tgt := 52) dJ15_indexOf_2_27 (by decide) (by have := lV i; omega) (by omega) (fun c27 => ?_) (fun c27 => ?_)
        · exact at52 i (Nat.le_refl _) hi no (fun _ => c27)
        · exact at30 (V.length + 1) i (by omega) (Nat.le_refl _) (by omega) (fun i' hi' => by
            by_cases e : i' = i
            · rw [e]; intro z; exact c27 (z 0 (by omega))
            · exact no i' (by omega))
  refine g_Met.of (M := mJ15_indexOf_2) (L := [some (.ref b), some (.int (nI V.length)), some (.ref d), some (.int (nI S.length)), some (.int (nI 0)), none, none, none, none, none, none]) (by decide +kernel) (Nat.le_of_ble_eq_true rfl) rfl ?_
  refine r_aload2 dJ15_indexOf_2_0 ?_
  refine r_iconst (v := nI 0) dJ15_indexOf_2_1 (by decide) ?_
  refine r_baload (0) dJ15_indexOf_2_2 hS rfl (by omega) (getD_at (by omega)) ?_
  refine r_istore5 dJ15_indexOf_2_3 ?_
  refine r_iload1 dJ15_indexOf_2_5 ?_
  refine r_iload3 dJ15_indexOf_2_6 ?_
  refine r_isub dJ15_indexOf_2_7 (pk_sub h2) ?_
  refine r_istore6 dJ15_indexOf_2_8 ?_
  refine r_iload4 dJ15_indexOf_2_10 ?_
  refine r_istore7 dJ15_indexOf_2_12 ?_
  exact main (V.length + 2) 0 none none none (by omega) g_c1n g_c1n g_c1n (by omega) (fun i' hi' => absurd hi' (by omega))
end
section
variable {K : g_K} {W : c_W} {s e cap n a b c d : Nat} {T V S : List Nat} {h : g_P}
theorem strT.ne {a b : Nat} {T : List Nat} {h : g_P} (t : strT a b T h) : ∃ vs, h a = some (g_ob 21 vs) := by
  obtain ⟨⟨x, y, t1⟩, -⟩ := t
  exact ⟨_, t1⟩
theorem k_indexOfB (hV : h b = some (g_ar 4 (byt V))) (hS : h d = some (g_ar 4 (byt S))) (cV : ∀ c ∈ V, c < 128) (cS : ∀ c ∈ S, c < 128) (h1 : 1 ≤ S.length) (h2 : S.length ≤ V.length) (h3 : V.length < 1000) : g_Met K mJ15_indexOf 1 0 0 [.ref b, .ref d] h n (gI fun r h' n' => ((∃ k, r = nI k ∧ k < 1000 ∧ infA V S) ∨ (r = -1 ∧ ¬ infA V S)) ∧ h' = h ∧ n' = n) gN := by
  refine g_Met.of (M := mJ15_indexOf) (L := [some (.ref b), some (.ref d)]) (by decide +kernel) (Nat.le_of_ble_eq_true rfl) rfl ?_
  refine r_aload1 dJ15_indexOf_0 ?_
  refine r_arraylength dJ15_indexOf_1 ga_B hS (by rw [byt_len]) ?_
  refine r_if_neN (tgt := 7) dJ15_indexOf_2 (by decide) (by omega) (fun c2 => ?_) (fun c2 => absurd c2 (by omega))
  refine r_aload0 dJ15_indexOf_7 ?_
  refine r_arraylength dJ15_indexOf_8 ga_B hV (by rw [byt_len]) ?_
  refine r_if_neN (tgt := 14) dJ15_indexOf_9 (by decide) (by omega) (fun c9 => ?_) (fun c9 => absurd c9 (by omega))
  refine r_aload0 dJ15_indexOf_14 ?_
  refine r_aload0 dJ15_indexOf_15 ?_
  refine r_arraylength dJ15_indexOf_16 ga_B hV (by rw [byt_len]) ?_
  refine r_aload1 dJ15_indexOf_17 ?_
  refine r_aload1 dJ15_indexOf_18 ?_
  refine r_arraylength dJ15_indexOf_19 ga_B hS (by rw [byt_len]) ?_
  refine r_iconst (v := nI 0) dJ15_indexOf_20 (by decide) ?_
  refine r_callS (M' := mJ15_indexOf_2) _ dJ15_indexOf_21 q3031 q3032 rfl (lw_all_tbl q3033) q147 (by exact pl_J15_indexOf_2)  ((k_indexOf2 hV hS cV cS h1 h2 h3)) (by omega) (Nat.le_of_ble_eq_true rfl) (by omega) (by omega) rfl (Nat.le_of_ble_eq_true rfl) rfl (kI fun r21 h21 n21 e21 => ?_) kN
  obtain ⟨z, q8, q7⟩ := e21; have q8 := q8.symm; have q7 := q7.symm; subst q8; subst q7
  exact r_ireturn dJ15_indexOf_24 rfl rfl (⟨z, rfl, rfl⟩)
theorem k_isLatin9 (w0 : cOK K W) (t : strT a b S h) : g_Met K mJ9_isLatin1 0 0 0 [.ref a] h n (gI fun r h' n' => r = nI 1 ∧ h' = h ∧ n' = n) gN := by
  obtain ⟨⟨x, y, t1⟩, -⟩ := t
  refine g_Met.of (M := mJ9_isLatin1) (L := [some (.ref a)]) (by decide +kernel) (Nat.le_of_ble_eq_true rfl) rfl ?_
  refine r_getstatic dJ9_isLatin1_0 w0.2.2.2.2.1 q638 (Or.inl rfl) ?_
  refine r_if_eqN (tgt := 17) dJ9_isLatin1_3 (by decide) (by omega) (fun c3 => absurd c3 (by omega)) (fun c3 => ?_)
  refine r_aload0 dJ9_isLatin1_6 ?_
  refine f_J9_15_J9 dJ9_isLatin1_7 t1 ?_
  refine r_if_neN (tgt := 17) dJ9_isLatin1_10 (by decide) (by omega) (fun c10 => absurd c10 (by omega)) (fun c10 => ?_)
  refine r_iconst (v := nI 1) dJ9_isLatin1_13 (by decide) ?_
  refine r_goto (tgt := 18) dJ9_isLatin1_14 (by decide) ?_
  exact r_ireturn dJ9_isLatin1_18 rfl (by first | exact nB_nar | rfl) (⟨rfl, rfl, rfl⟩)
theorem k_indexOfS (w0 : cOK K W) (tV : strT a b V h) (tS : strT c d S h) (h1 : 1 ≤ S.length) (h2 : S.length ≤ V.length) (h3 : V.length < 1000) : g_Met K mJ9_indexOf 2 0 0 [.ref a, .ref c] h n (gI fun r h' n' => ((∃ k, r = nI k ∧ k < 1000 ∧ infA V S) ∨ (r = -1 ∧ ¬ infA V S)) ∧ h' = h ∧ n' = n) gN := by
  obtain ⟨⟨x, y, t1⟩, t2, t3⟩ := id tV
  obtain ⟨⟨x2, y2, u1⟩, u2, u3⟩ := id tS
  refine g_Met.of (M := mJ9_indexOf) (L := [some (.ref a), some (.ref c), none]) (by decide +kernel) (Nat.le_of_ble_eq_true rfl) rfl ?_
  refine r_aload0 dJ9_indexOf_0 ?_
  refine r_callV (M' := mJ9_coder) _ dJ9_indexOf_1 q634 q635 q636 rfl (lw_all_tbl q637) q136 (by exact pl_J9_coder) gc_J9 t1 ((k_coder w0 tV)) (by omega) (Nat.le_of_ble_eq_true rfl) (by omega) (by omega) rfl (Nat.le_of_ble_eq_true rfl) rfl (kI fun r1 h1 n1 e1 => ?_) kN
  obtain ⟨q9, q8, q7⟩ := e1; have q9 := q9.symm; have q8 := q8.symm; have q7 := q7.symm; subst q9; subst q8; subst q7
  refine r_istore2 dJ9_indexOf_4 ?_
  refine r_iload2 dJ9_indexOf_5 ?_
  refine r_aload1 dJ9_indexOf_6 ?_
  refine r_callV (M' := mJ9_coder) _ dJ9_indexOf_7 q634 q635 q636 rfl (lw_all_tbl q637) q136 (by exact pl_J9_coder) gc_J9 u1 ((k_coder w0 tS)) (by omega) (Nat.le_of_ble_eq_true rfl) (by omega) (by omega) rfl (Nat.le_of_ble_eq_true rfl) rfl (kI fun r7 h7 n7 e7 => ?_) kN
  obtain ⟨q9, q8, q7⟩ := e7; have q9 := q9.symm; have q8 := q8.symm; have q7 := q7.symm; subst q9; subst q8; subst q7
  refine r_icmp_neN (tgt := 46) dJ9_indexOf_10 (by decide) (by omega) (by omega) (fun c10 => absurd c10 (by omega)) (fun c10 => ?_)
  refine r_aload0 dJ9_indexOf_13 ?_
  refine r_callV (M' := mJ9_isLatin1) _ dJ9_indexOf_14 q2933 q2934 q2935 rfl (lw_all_tbl q2936) q136 (by exact pl_J9_isLatin1) gc_J9 t1 ((k_isLatin9 w0 tV)) (by omega) (Nat.le_of_ble_eq_true rfl) (by omega) (by omega) rfl (Nat.le_of_ble_eq_true rfl) rfl (kI fun r14 h14 n14 e14 => ?_) kN
  obtain ⟨q9, q8, q7⟩ := e14; have q9 := q9.symm; have q8 := q8.symm; have q7 := q7.symm; subst q9; subst q8; subst q7
  refine r_if_eqN (tgt := 34) dJ9_indexOf_17 (by decide) (by omega) (fun c17 => absurd c17 (by omega)) (fun c17 => ?_)
  refine r_aload0 dJ9_indexOf_20 ?_
  refine f_J9_9_J9 dJ9_indexOf_21 t1 ?_
  refine r_aload1 dJ9_indexOf_24 ?_
  refine f_J9_9_J9 dJ9_indexOf_25 u1 ?_
  refine r_callS (M' := mJ15_indexOf) _ dJ9_indexOf_28 q3028 q3029 rfl (lw_all_tbl q3030) q147 (by exact pl_J15_indexOf)  ((k_indexOfB t2 u2 t3 u3 h1 h2 h3)) (by omega) (Nat.le_of_ble_eq_true rfl) (by omega) (by omega) rfl (Nat.le_of_ble_eq_true rfl) rfl (kI fun r28 h28 n28 e28 => ?_) kN
  obtain ⟨z, q8, q7⟩ := e28; have q8 := q8.symm; have q7 := q7.symm; subst q8; subst q7
  refine r_goto (tgt := 45) dJ9_indexOf_31 (by decide) ?_
  exact r_ireturn dJ9_indexOf_45 rfl rfl (⟨z, rfl, rfl⟩)
theorem k_strSelf : g_Met K mJ9_toString 0 0 0 [.ref a] h n (gA fun r h' n' => r = .ref a ∧ h' = h ∧ n' = n) gN := by
  refine g_Met.of (M := mJ9_toString) (L := [some (.ref a)]) (by decide +kernel) (Nat.le_of_ble_eq_true rfl) rfl ?_
  refine r_aload0 dJ9_toString_0 ?_
  exact r_areturn dJ9_toString_1 rfl (Or.inl ⟨_, rfl⟩) (Or.inr ⟨_, rfl⟩) (⟨rfl, rfl, rfl⟩)
theorem k_contains {p : Prop} [Decidable p] (w0 : cOK K W) (tV : strT a b V h) (tS : strT c d S h) (h1 : 1 ≤ S.length) (h2 : S.length ≤ V.length) (h3 : V.length < 1000) (hp : infA V S ↔ p) : g_Met K mJ9_contains 3 0 0 [.ref a, .ref c] h n (gI fun r h' n' => r = nB p ∧ h' = h ∧ n' = n) gN := by
  obtain ⟨⟨x, y, t1⟩, t2, t3⟩ := id tV
  obtain ⟨⟨x2, y2, u1⟩, u2, u3⟩ := id tS
  refine g_Met.of (M := mJ9_contains) (L := [some (.ref a), some (.ref c)]) (by decide +kernel) (Nat.le_of_ble_eq_true rfl) rfl ?_
  refine r_aload0 dJ9_contains_0 ?_
  refine r_aload1 dJ9_contains_1 ?_
  refine r_callF (M' := mJ9_toString) _ dJ9_contains_2 q3013 q3015 q3014 rfl q3017 q2885 q3019 q3018 q3016 rfl (lw_all_tbl q2886) q136 (by exact (⟨by decide, by decide, by decide +kernel⟩ : g_pl ⟨"java/lang/CharSequence", "toString", "()Ljava/lang/String;"⟩ 0)) gc_J9 u1 (k_strSelf) (by omega) (Nat.le_of_ble_eq_true rfl) (by omega) (by omega) rfl (Nat.le_of_ble_eq_true rfl) rfl (kA fun r2 h2 n2 t2 e2 => ?_) kN
  obtain ⟨q9, q8, q7⟩ := e2; have q9 := q9.symm; have q8 := q8.symm; have q7 := q7.symm; subst q9; subst q8; subst q7
  refine r_callV (M' := mJ9_indexOf) _ dJ9_contains_7 q3024 q3025 q3026 rfl (lw_all_tbl q3027) q136 (by exact pl_J9_indexOf) gc_J9 t1 ((k_indexOfS w0 tV tS h1 h2 h3)) (by omega) (Nat.le_of_ble_eq_true rfl) (by omega) (by omega) rfl (Nat.le_of_ble_eq_true rfl) rfl (kI fun r7 h7 n7 e7 => ?_) kN
  obtain ⟨z, q8, q7⟩ := e7; have q8 := q8.symm; have q7 := q7.symm; subst q8; subst q7
  refine r_if_lt (tgt := 17) dJ9_contains_10 (by decide) (fun c10 => ?_) (fun c10 => ?_)
  · refine r_iconst (v := nI 0) dJ9_contains_17 (by decide) ?_
    exact r_ireturn dJ9_contains_18 rfl (by first | exact nB_nar | rfl) (⟨nB_f (fun y => by
        rcases z with ⟨k, rfl, z1, z2⟩ | ⟨rfl, z1⟩
        · rw [show (0 : Int32) = nI 0 from rfl, nI_lt' (by omega) (by omega)] at c10; omega
        · exact z1 (hp.mpr y)), rfl, rfl⟩)
  · refine r_iconst (v := nI 1) dJ9_contains_13 (by decide) ?_
    refine r_goto (tgt := 18) dJ9_contains_14 (by decide) ?_
    exact r_ireturn dJ9_contains_18 rfl (by first | exact nB_nar | rfl) (⟨nB_t (by
        rcases z with ⟨k, rfl, z1, z2⟩ | ⟨rfl, z1⟩
        · exact hp.mp z2
        · exact absurd (by decide) c10), rfl, rfl⟩)
theorem k_eqB (hV : h b = some (g_ar 4 (byt V))) (hS : h d = some (g_ar 4 (byt S))) (cV : ∀ c ∈ V, c < 128) (cS : ∀ c ∈ S, c < 128) (h3 : V.length < 1000) (h4 : S.length < 1000) : g_Met K mJ15_equals 0 0 0 [.ref b, .ref d] h n (gI fun r h' n' => r = nB (V = S) ∧ h' = h ∧ n' = n) gN := by
  have lV : ∀ j, V.getD j 0 < 128 := fun j => getD_lt cV
  have lS : ∀ j, S.getD j 0 < 128 := fun j => getD_lt cS
  have loop : ∀ (g j : Nat), j + g = V.length → V.length = S.length → (∀ k, k < j → V.getD k 0 = S.getD k 0) → g_G K mJ15_equals 0 0 0 (gI fun r h' n' => r = nB (V = S) ∧ h' = h ∧ n' = n) gN 9 [some (.ref b), some (.ref d), some (.int (nI j))] [] h n := by
    intro g
    induction g with
    | zero =>
      intro j hj hl eq
      refine r_iload2 dJ15_equals_9 ?_
      refine r_aload0 dJ15_equals_10 ?_
      refine r_arraylength dJ15_equals_11 ga_B hV (by rw [byt_len]) ?_
      refine r_icmp_geN (tgt := 32) dJ15_equals_12 (by decide) (by omega) (by omega) (fun c12 => ?_) (fun c12 => absurd c12 (by omega))
      refine r_iconst (v := nI 1) dJ15_equals_32 (by decide) ?_
      exact r_ireturn dJ15_equals_33 rfl (by first | exact nB_nar | rfl) (⟨nB_t (List.ext_getElem? fun k => by
          by_cases z : k < V.length
          · have e := eq k (by omega)
            rw [List.getD_eq_getElem?_getD, List.getD_eq_getElem?_getD, List.getElem?_eq_getElem z, List.getElem?_eq_getElem (by omega)] at e
            rw [List.getElem?_eq_getElem z, List.getElem?_eq_getElem (by omega)]
            exact congrArg some e
          · rw [List.getElem?_eq_none (by omega), List.getElem?_eq_none (by omega)]), rfl, rfl⟩)
    | succ g ih =>
      intro j hj hl eq
      have e1 := lV j
      have e2 := lS j
      refine r_iload2 dJ15_equals_9 ?_
      refine r_aload0 dJ15_equals_10 ?_
      refine r_arraylength dJ15_equals_11 ga_B hV (by rw [byt_len]) ?_
      refine r_icmp_geN (tgt := 32) dJ15_equals_12 (by decide) (by omega) (by omega) (fun c12 => absurd c12 (by omega)) (fun c12 => ?_)
      refine r_aload0 dJ15_equals_15 ?_
      refine r_iload2 dJ15_equals_16 ?_
      refine r_baload (j) dJ15_equals_17 hV rfl (by omega) (getD_at (by omega)) ?_
      refine r_aload1 dJ15_equals_18 ?_
      refine r_iload2 dJ15_equals_19 ?_
      refine r_baload (j) dJ15_equals_20 hS rfl (by omega) (getD_at (by omega)) ?_
      refine r_icmp_eqN (tgt := 26) dJ15_equals_21 (by decide) (by omega) (by omega) (fun c21 => ?_) (fun c21 => ?_)
      · refine r_iinc2 dJ15_equals_26 (ii1 _) ?_
        refine r_goto (tgt := 9) dJ15_equals_29 (by decide) ?_
        exact ih (j + 1) (by omega) hl (fun k hk => by
          by_cases z : k = j
          · rw [z]; exact c21
          · exact eq k (by omega))
      · refine r_iconst (v := nI 0) dJ15_equals_24 (by decide) ?_
        exact r_ireturn dJ15_equals_25 rfl (by first | exact nB_nar | rfl) (⟨nB_f (fun z => c21 (by rw [z])), rfl, rfl⟩)
  refine g_Met.of (M := mJ15_equals) (L := [some (.ref b), some (.ref d), none]) (by decide +kernel) (Nat.le_of_ble_eq_true rfl) rfl ?_
  refine r_aload0 dJ15_equals_0 ?_
  refine r_arraylength dJ15_equals_1 ga_B hV (by rw [byt_len]) ?_
  refine r_aload1 dJ15_equals_2 ?_
  refine r_arraylength dJ15_equals_3 ga_B hS (by rw [byt_len]) ?_
  refine r_icmp_neN (tgt := 34) dJ15_equals_4 (by decide) (by omega) (by omega) (fun c4 => ?_) (fun c4 => ?_)
  · refine r_iconst (v := nI 0) dJ15_equals_34 (by decide) ?_
    exact r_ireturn dJ15_equals_35 rfl (by first | exact nB_nar | rfl) (⟨nB_f (fun z => c4 (by rw [z])), rfl, rfl⟩)
  · refine r_iconst (v := nI 0) dJ15_equals_7 (by decide) ?_
    refine r_istore2 dJ15_equals_8 ?_
    exact loop V.length 0 (by omega) c4 (fun k hk => absurd hk (by omega))
theorem k_strEq (w0 : cOK K W) (tV : strT a b V h) (tS : strT c d S h) (h3 : V.length < 1000) (h4 : S.length < 1000) (hac : a ≠ c) : g_Met K mJ9_equals 1 0 0 [.ref a, .ref c] h n (gI fun r h' n' => r = nB (V = S) ∧ h' = h ∧ n' = n) gN := by
  obtain ⟨⟨x, y, t1⟩, t2, t3⟩ := id tV
  obtain ⟨⟨x2, y2, u1⟩, u2, u3⟩ := id tS
  refine g_Met.of (M := mJ9_equals) (L := [some (.ref a), some (.ref c), none]) (by decide +kernel) (Nat.le_of_ble_eq_true rfl) rfl ?_
  refine r_aload0 dJ9_equals_0 ?_
  refine r_aload1 dJ9_equals_1 ?_
  refine r_acmp_ne (tgt := 7) dJ9_equals_2 (by decide) (fun c2 => ?_) (fun c2 => absurd c2 hac)
  refine r_aload1 dJ9_equals_7 ?_
  refine r_instY dJ9_equals_8 gc_J9 q1045 (Or.inl rfl) u1 ?_
  refine r_if_eq (tgt := 54) dJ9_equals_11 (by decide) (fun c11 => absurd c11 ((by decide))) (fun c11 => ?_)
  refine r_aload1 dJ9_equals_14 ?_
  refine r_checkcast dJ9_equals_15 gc_J9 q1045 (Or.inl rfl) u1 ?_
  refine r_astore2 dJ9_equals_18 ?_
  refine r_getstatic dJ9_equals_19 w0.2.2.2.2.1 q638 (Or.inl rfl) ?_
  refine r_if_eqN (tgt := 36) dJ9_equals_22 (by decide) (by omega) (fun c22 => absurd c22 (by omega)) (fun c22 => ?_)
  refine r_aload0 dJ9_equals_25 ?_
  refine f_J9_15_J9 dJ9_equals_26 t1 ?_
  refine r_aload2 dJ9_equals_29 ?_
  refine f_J9_15_J9 dJ9_equals_30 u1 ?_
  refine r_icmp_neN (tgt := 54) dJ9_equals_33 (by decide) (by omega) (by omega) (fun c33 => absurd c33 (by omega)) (fun c33 => ?_)
  refine r_aload0 dJ9_equals_36 ?_
  refine f_J9_9_J9 dJ9_equals_37 t1 ?_
  refine r_aload2 dJ9_equals_40 ?_
  refine f_J9_9_J9 dJ9_equals_41 u1 ?_
  refine r_callS (M' := mJ15_equals) _ dJ9_equals_44 q3131 q3132 rfl (lw_all_tbl q3133) q147 (by exact pl_J15_equals)  ((k_eqB t2 u2 t3 u3 h3 h4)) (by omega) (Nat.le_of_ble_eq_true rfl) (by omega) (by omega) rfl (Nat.le_of_ble_eq_true rfl) rfl (kI fun r44 h44 n44 e44 => ?_) kN
  obtain ⟨q9, q8, q7⟩ := e44; have q9 := q9.symm; have q8 := q8.symm; have q7 := q7.symm; subst q9; subst q8; subst q7
  refine r_if_eqB (tgt := 54) dJ9_equals_47 (by decide) (fun c47 => ?_) (fun c47 => ?_)
  · refine r_iconst (v := nI 0) dJ9_equals_54 (by decide) ?_
    exact r_ireturn dJ9_equals_55 rfl (by first | exact nB_nar | rfl) (⟨nB_f c47, rfl, rfl⟩)
  · refine r_iconst (v := nI 1) dJ9_equals_50 (by decide) ?_
    refine r_goto (tgt := 55) dJ9_equals_51 (by decide) ?_
    exact r_ireturn dJ9_equals_55 rfl (by first | exact nB_nar | rfl) (⟨nB_t c47, rfl, rfl⟩)
end
