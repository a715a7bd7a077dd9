/-! Strings: contains, equals, hashCode, charAt; a builder emptied -/
set_option maxRecDepth 100000
/-- S lies in V at i -/
def matA (V S : List Nat) (i : Nat) : Prop := ∀ k, k < S.length → V.getD (i + k) 0 = S.getD k 0
def infA (V S : List Nat) : Prop := ∃ i, i + S.length ≤ V.length ∧ matA V S i
theorem getD_at {L : List Nat} {j : Nat} (h : j < L.length) : (byt L)[j]? = some (.int (nI (L.getD j 0))) := by
  refine byt_at ?_
  rw [List.getD_eq_getElem?_getD, List.getElem?_eq_getElem h]
  rfl
theorem getD_lt {L : List Nat} {j : Nat} (h : ∀ c ∈ L, c < 128) : L.getD j 0 < 128 := by
  rw [List.getD_eq_getElem?_getD]
  cases q : L[j]? with
  | none => decide
  | some c => exact h c (List.mem_of_getElem? q)
section
variable {K : g_K} {W : c_W} {s e cap n a b c d : Nat} {T V S : List Nat} {h : g_P}
theorem k_indexOf2 (hV : h b = some (g_ar 4 (byt V))) (hS : h d = some (g_ar 4 (byt S))) (cV : ∀ c ∈ V, c < 128) (cS : ∀ c ∈ S, c < 128) (h1 : 1 ≤ S.length) (h2 : S.length ≤ V.length) (h3 : V.length < 1000) : g_Met K mJ15_indexOf_2 0 0 0 [.ref b, .int (nI V.length), .ref d, .int (nI S.length), .int (nI 0)] h n (gI fun r h' n' => ((∃ k, r = nI k ∧ k < 1000 ∧ infA V S) ∨ (r = -1 ∧ ¬ infA V S)) ∧ h' = h ∧ n' = n) gN := by
  have lV : ∀ j, V.getD j 0 < 128 := fun j => getD_lt cV
  have lS : ∀ j, S.getD j 0 < 128 := fun j => getD_lt cS
  have l0 := lS 0
  have main : ∀ (g i : Nat) (o8 o9 o10 : Option Value), V.length - S.length + 1 < i + g → g_c1 o8 → g_c1 o9 → g_c1 o10 → i ≤ V.length - S.length + 1 → (∀ i', i' < i → ¬ matA V S i') → g_G K mJ15_indexOf_2 0 0 0 (gI fun r h' n' => ((∃ k, r = nI k ∧ k < 1000 ∧ infA V S) ∨ (r = -1 ∧ ¬ infA V S)) ∧ h' = h ∧ n' = n) gN 14 [some (.ref b), some (.int (nI V.length)), some (.ref d), some (.int (nI S.length)), some (.int (nI 0)), some (.int (nI (S.getD 0 0))), some (.int (nI (V.length - S.length))), some (.int (nI i)), o8, o9, o10] [] h n := by
    intro g
    induction g with
    | zero => intro i o8 o9 o10 hg; omega
    | succ g ih =>
      intro i o8 o9 o10 hg c8 c9 c10 hi no
      -- the first sign fits, or the end is reached
      have at52 : ∀ (i2 : Nat), i ≤ i2 → i2 ≤ V.length - S.length + 1 → (∀ i', i' < i2 → ¬ matA V S i') → (i2 ≤ V.length - S.length → V.getD i2 0 = S.getD 0 0) → g_G K mJ15_indexOf_2 0 0 0 (gI fun r h' n' => ((∃ k, r = nI k ∧ k < 1000 ∧ infA V S) ∨ (r = -1 ∧ ¬ infA V S)) ∧ h' = h ∧ n' = n) gN 52 [some (.ref b), some (.int (nI V.length)), some (.ref d), some (.int (nI S.length)), some (.int (nI 0)), some (.int (nI (S.getD 0 0))), some (.int (nI (V.length - S.length))), some (.int (nI i2)), o8, o9, o10] [] h n := by
        intro i2 q1 q2 q3 q4
        have next : ∀ (o8 o9 o10 : Option Value), g_c1 o8 → g_c1 o9 → g_c1 o10 → (i2 ≤ V.length - S.length → ¬ matA V S i2) → g_G K mJ15_indexOf_2 0 0 0 (gI fun r h' n' => ((∃ k, r = nI k ∧ k < 1000 ∧ infA V S) ∨ (r = -1 ∧ ¬ infA V S)) ∧ h' = h ∧ n' = n) gN 113 [some (.ref b), some (.int (nI V.length)), some (.ref d), some (.int (nI S.length)), some (.int (nI 0)), some (.int (nI (S.getD 0 0))), some (.int (nI (V.length - S.length))), some (.int (nI i2)), o8, o9, o10] [] h n := by
          intro o8 o9 o10 c8 c9 c10 hno
          by_cases z : i2 ≤ V.length - S.length
          · skip
            refine r_iinc7 dJ15_indexOf_2_113 (ii1 _) ?_
            refine r_goto (tgt := 14) dJ15_indexOf_2_116 (by decide) ?_
            exact ih (i2 + 1) _ _ _ (by omega) c8 c9 c10 (by omega) (fun i' hi' => by
              by_cases e : i' = i2
              · rw [e]; exact hno z
              · exact q3 i' (by omega))
          · have e2 : i2 = V.length - S.length + 1 := by omega
            refine r_iinc7 dJ15_indexOf_2_113 (ii1 _) ?_
            refine r_goto (tgt := 14) dJ15_indexOf_2_116 (by decide) ?_
            refine r_iload7 dJ15_indexOf_2_14 ?_
            refine r_iload6 dJ15_indexOf_2_16 ?_
            refine r_icmp_gtN (tgt := 119) dJ15_indexOf_2_18 (by decide) (by omega) (by omega) (fun c18 => ?_) (fun c18 => absurd c18 (by omega))
            refine r_iconst (v := -1) dJ15_indexOf_2_119 (by decide) ?_
            exact r_ireturn dJ15_indexOf_2_120 rfl rfl (⟨Or.inr ⟨rfl, fun ⟨i', z1, z2⟩ => q3 i' (by omega) z2⟩, rfl, rfl⟩)
        have cmp : ∀ (f k : Nat), k + f = S.length → 1 ≤ k → i2 ≤ V.length - S.length → (∀ k', k' < k → V.getD (i2 + k') 0 = S.getD k' 0) → g_G K mJ15_indexOf_2 0 0 0 (gI fun r h' n' => ((∃ k, r = nI k ∧ k < 1000 ∧ infA V S) ∨ (r = -1 ∧ ¬ infA V S)) ∧ h' = h ∧ n' = n) gN 76 [some (.ref b), some (.int (nI V.length)), some (.ref d), some (.int (nI S.length)), some (.int (nI 0)), some (.int (nI (S.getD 0 0))), some (.int (nI (V.length - S.length))), some (.int (nI i2)), some (.int (nI (i2 + k))), some (.int (nI (i2 + S.length))), some (.int (nI k))] [] h n := by
          intro f
          induction f with
          | zero =>
            intro k hk k1 hm eq
            refine r_iload8 dJ15_indexOf_2_76 ?_
            refine r_iload9 dJ15_indexOf_2_78 ?_
            refine r_icmp_geN (tgt := 103) dJ15_indexOf_2_80 (by decide) (by omega) (by omega) (fun c80 => ?_) (fun c80 => absurd c80 (by omega))
            refine r_iload8 dJ15_indexOf_2_103 ?_
            refine r_iload9 dJ15_indexOf_2_105 ?_
            refine r_icmp_neN (tgt := 113) dJ15_indexOf_2_107 (by decide) (by omega) (by omega) (fun c107 => absurd c107 (by omega)) (fun c107 => ?_)
            refine r_iload7 dJ15_indexOf_2_110 ?_
            exact r_ireturn dJ15_indexOf_2_112 rfl rfl (⟨Or.inl ⟨i2, rfl, by omega, i2, by omega, fun k' hk' => eq k' (by omega)⟩, rfl, rfl⟩)
          | succ f ihf =>
            intro k hk k1 hm eq
            have e1 := lV (i2 + k)
            have e2 := lS k
            refine r_iload8 dJ15_indexOf_2_76 ?_
            refine r_iload9 dJ15_indexOf_2_78 ?_
            refine r_icmp_geN (tgt := 103) dJ15_indexOf_2_80 (by decide) (by omega) (by omega) (fun c80 => absurd c80 (by omega)) (fun c80 => ?_)
            refine r_aload0 dJ15_indexOf_2_83 ?_
            refine r_iload8 dJ15_indexOf_2_84 ?_
            refine r_baload ((i2 + k)) dJ15_indexOf_2_86 hV rfl (by omega) (getD_at (by omega)) ?_
            refine r_aload2 dJ15_indexOf_2_87 ?_
            refine r_iload10 dJ15_indexOf_2_88 ?_
            refine r_baload (k) dJ15_indexOf_2_90 hS rfl (by omega) (getD_at (by omega)) ?_
            refine r_icmp_neN (tgt := 103) dJ15_indexOf_2_91 (by decide) (by omega) (by omega) (fun c91 => ?_) (fun c91 => ?_)
            · refine r_iload8 dJ15_indexOf_2_103 ?_
              refine r_iload9 dJ15_indexOf_2_105 ?_
              refine r_icmp_neN (tgt := 113) dJ15_indexOf_2_107 (by decide) (by omega) (by omega) (fun c107 => ?_) (fun c107 => absurd c107 (by omega))
              exact next _ _ _ g_c1i g_c1i g_c1i (fun _ z => c91 (z k (by omega)))
            · refine r_iinc8 dJ15_indexOf_2_94 (show _ = nI (i2 + (k + 1)) from ii1 _) ?_
              refine r_iinc10 dJ15_indexOf_2_97 (ii1 _) ?_
              refine r_goto (tgt := 76) dJ15_indexOf_2_100 (by decide) ?_
              exact ihf (k + 1) (by omega) (by omega) hm (fun k' hk' => by
                by_cases z : k' = k
                · rw [z]; exact c91
                · exact eq k' (by omega))
        refine r_iload7 dJ15_indexOf_2_52 ?_
        refine r_iload6 dJ15_indexOf_2_54 ?_
        refine r_icmp_gtN (tgt := 113) dJ15_indexOf_2_56 (by decide) (by omega) (by omega) (fun c56 => ?_) (fun c56 => ?_)
        · exact next _ _ _ c8 c9 c10 (fun z => absurd z (by omega))
        · refine r_iload7 dJ15_indexOf_2_59 ?_
          refine r_iconst (v := nI 1) dJ15_indexOf_2_61 (by decide) ?_
          refine r_iadd dJ15_indexOf_2_62 (nI_add _ _) ?_
          refine r_istore8 dJ15_indexOf_2_63 ?_
          refine r_iload8 dJ15_indexOf_2_65 ?_
          refine r_iload3 dJ15_indexOf_2_67 ?_
          refine r_iadd dJ15_indexOf_2_68 (nI_add _ _) ?_
          refine r_iconst (v := nI 1) dJ15_indexOf_2_69 (by decide) ?_
          refine r_isub dJ15_indexOf_2_70 (show _ = nI (i2 + S.length) by rw [pk_sub (by omega)]; congr 1; omega) ?_
          refine r_istore9 dJ15_indexOf_2_71 ?_
          refine r_iconst (v := nI 1) dJ15_indexOf_2_73 (by decide) ?_
          refine r_istore10 dJ15_indexOf_2_74 ?_
          exact cmp (S.length - 1) 1 (by omega) (Nat.le_refl _) (by omega) (fun k' hk' => by
            have : k' = 0 := by omega
            rw [this]
            exact q4 (by omega))
      have at30 : ∀ (f i2 : Nat), V.length - S.length < i2 + f → i ≤ i2 → i2 ≤ V.length - S.length → (∀ i', i' < i2 + 1 → ¬ matA V S i') → g_G K mJ15_indexOf_2 0 0 0 (gI fun r h' n' => ((∃ k, r = nI k ∧ k < 1000 ∧ infA V S) ∨ (r = -1 ∧ ¬ infA V S)) ∧ h' = h ∧ n' = n) gN 30 [some (.ref b), some (.int (nI V.length)), some (.ref d), some (.int (nI S.length)), some (.int (nI 0)), some (.int (nI (S.getD 0 0))), some (.int (nI (V.length - S.length))), some (.int (nI i2)), o8, o9, o10] [] h n := by
        intro f
        induction f with
        | zero => intro i2 q1 q2 q3; omega
        | succ f ihf =>
          intro i2 q1 q2 q3 q4
          have e1 := lV (i2 + 1)
          refine r_iinc7 dJ15_indexOf_2_30 (ii1 _) ?_
          refine r_iload7 dJ15_indexOf_2_33 ?_
          refine r_iload6 dJ15_indexOf_2_35 ?_
          refine r_icmp_gtN (tgt := 52) dJ15_indexOf_2_37 (by decide) (by omega) (by omega) (fun c37 => ?_) (fun c37 => ?_)
          · exact at52 (i2 + 1) (by omega) (by omega) q4 (fun z => absurd z (by omega))
          · refine r_aload0 dJ15_indexOf_2_40 ?_
            refine r_iload7 dJ15_indexOf_2_41 ?_
            refine r_baload ((i2 + 1)) dJ15_indexOf_2_43 hV rfl (by omega) (getD_at (by omega)) ?_
            refine r_iload5 dJ15_indexOf_2_44 ?_
            refine r_icmp_eqN (tgt := 52) dJ15_indexOf_2_46 (by decide) (by omega) (by omega) (fun c46 => ?_) (fun c46 => ?_)
            · exact at52 (i2 + 1) (by omega) (by omega) q4 (fun _ => c46)
            · refine r_goto (tgt := 30) dJ15_indexOf_2_49 (by decide) ?_
              exact ihf (i2 + 1) (by omega) (by omega) (by omega) (fun i' hi' => by
                by_cases z : i' = i2 + 1
                · rw [z]; intro z2; exact c46 (z2 0 (by omega))
                · exact q4 i' (by omega))
      refine r_iload7 dJ15_indexOf_2_14 ?_
      refine r_iload6 dJ15_indexOf_2_16 ?_
      refine r_icmp_gtN (tgt := 119) dJ15_indexOf_2_18 (by decide) (by omega) (by omega) (fun c18 => ?_) (fun c18 => ?_)
      · refine r_iconst (v := -1) dJ15_indexOf_2_119 (by decide) ?_
        exact r_ireturn dJ15_indexOf_2_120 rfl rfl (⟨Or.inr ⟨rfl, fun ⟨i', z1, z2⟩ => no i' (by omega) z2⟩, rfl, rfl⟩)
      · refine r_aload0 dJ15_indexOf_2_21 ?_
        refine r_iload7 dJ15_indexOf_2_22 ?_
        refine r_baload (i) dJ15_indexOf_2_24 hV rfl (by omega) (getD_at (by omega)) ?_
        refine r_iload5 dJ15_indexOf_2_25 ?_
        refine r_icmp_eqN (tgt := 52) dJ15_indexOf_2_27 (by decide) (by have := lV i; omega) (by omega) (fun c27 => ?_) (fun c27 => ?_)
        · exact at52 i (Nat.le_refl _) hi no (fun _ => c27)
        · exact at30 (V.length + 1) i (by omega) (Nat.le_refl _) (by omega) (fun i' hi' => by
            by_cases e : i' = i
            · rw [e]; intro z; exact c27 (z 0 (by omega))
            · exact no i' (by omega))
  refine g_Met.of (M := mJ15_indexOf_2) (L := [some (.ref b), some (.int (nI V.length)), some (.ref d), some (.int (nI S.length)), some (.int (nI 0)), none, none, none, none, none, none]) (by decide +kernel) (Nat.le_of_ble_eq_true rfl) rfl ?_
  refine r_aload2 dJ15_indexOf_2_0 ?_
  refine r_iconst (v := nI 0) dJ15_indexOf_2_1 (by decide) ?_
  refine r_baload (0) dJ15_indexOf_2_2 hS rfl (by omega) (getD_at (by omega)) ?_
  refine r_istore5 dJ15_indexOf_2_3 ?_
  refine r_iload1 dJ15_indexOf_2_5 ?_
  refine r_iload3 dJ15_indexOf_2_6 ?_
  refine r_isub dJ15_indexOf_2_7 (pk_sub h2) ?_
  refine r_istore6 dJ15_indexOf_2_8 ?_
  refine r_iload4 dJ15_indexOf_2_10 ?_
  refine r_istore7 dJ15_indexOf_2_12 ?_
  exact main (V.length + 2) 0 none none none (by omega) g_c1n g_c1n g_c1n (by omega) (fun i' hi' => absurd hi' (by omega))
end
