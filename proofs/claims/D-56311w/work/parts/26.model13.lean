/-! the reference: undo, the snapshot, what failed -/
set_option maxRecDepth 100000
section
variable {K : g_K} {a n u : Nat} {V : Nat → Nat → Int32} {Y : Nat → Nat → Int64} {R : Nat → Nat → Nat} {A : Nat → Nat → Int64} {h : g_P}
/-- what is left of 'undo' -/
def mU (a : Nat) (V : Nat → Nat → Int32) (R : Nat → Nat → Nat) (A : Nat → Nat → Int64) (c f : Nat) (r : Int32) (h' : g_P) : Prop :=
  (c = 0 → ∃ V', mS a V' R A h' ∧ V' 0 0 = nI 1 ∧ vE V V') ∧
  (c ≠ 0 → r = nI (c - 1) ∧ ∃ V', mS a V' (up1 R 1 (R (10 + (f + (c - 1)) % 8))) (up1 A 1 (A (10 + (f + (c - 1)) % 8))) h' ∧ V' 0 0 = nI 0 ∧ V' 0 5 = nI (c - 1) ∧ (∀ i, i ∈ [6, 7, 13, 15, 17, 18, 19] → V' 0 i = V 0 i) ∧ V' 6 = V 6 ∧ V' 7 = V 7)
theorem k_undo {c f : Nat} (hb : k_b K ≤ a) (m : mS a V R A h) (hc : V 0 5 = nI c) (hf : V 0 6 = nI f) (hc8 : c ≤ 8) (hf8 : f < 8) : g_Met K mX3_undo 2 0 0 [.ref a] h n (gI fun r h' n' => mU a V R A c f r h' ∧ mT a h h' ∧ n' = n) gN := by
  refine g_Met.of (M := mX3_undo) (L := [some (.ref a), none, none]) (by decide +kernel) (Nat.le_of_ble_eq_true rfl) rfl ?_
  have loop : ∀ (j k : Nat) (V1 : Nat → Nat → Int32) (h1 : g_P), c ≠ 0 → k + j = 56 → mR a V1 (up1 (Yo R A) 1 (mxf (rw_ (R (10 + (f + (c - 1)) % 8)) (A (10 + (f + (c - 1)) % 8))) (rw_ (R 1) (A 1)) k)) h1 → V1 = up1 (vZ V) 0 (fup (vZ V 0) 5 (nI (c - 1))) → mT a h h1 → g_G K mX3_undo 2 0 0 (gI fun r h' n' => mU a V R A c f r h' ∧ mT a h h' ∧ n' = n) gN 43 [some (.ref a), some (.int (nI ((f + (c - 1)) % 8))), some (.int (nI k))] [] h1 n := by
    intro j
    induction j with
    | zero =>
      intro k V1 h1 hc0 hk m1 v1 t1
      have hk : k = 56 := by omega
      subst hk
      have m2 := m1.row1 (g := rw_ (R (10 + (f + (c - 1)) % 8)) (A (10 + (f + (c - 1)) % 8))) (fun q hq => by unfold mxf; rw [if_pos hq])
      rw [Yo_up (by decide) (by decide)] at m2
      have m2 : mS a V1 _ _ h1 := m2
      refine r_iload2 dX3_undo_43 ?_
      refine r_bipush (v := nI 56) dX3_undo_44 (by decide) ?_
      refine r_icmp_geN (tgt := 72) dX3_undo_46 (by decide) (by omega) (by omega) (fun c46 => ?_) (fun c46 => absurd c46 (by omega))
      refine r_aload0 dX3_undo_72 ?_
      refine f_X3_50_X3 dX3_undo_73 m2.1 ?_
      exact r_ireturn dX3_undo_76 rfl rfl (⟨⟨fun z => absurd z hc0, fun _ => ⟨by rw [v1, up1_s, fup_s], V1, m2, by rw [v1, up1_s, fup_n (by decide), vZ_0], by rw [v1, up1_s, fup_s], fun i hi => by
              have q : i ≠ 5 ∧ i ≠ 0 := by
                simp only [List.mem_cons, List.not_mem_nil, or_false] at hi
                omega
              rw [v1, up1_s, fup_n q.1, vZ_n q.2], by rw [v1, up1_n (by decide), vZ_c (by decide)], by rw [v1, up1_n (by decide), vZ_c (by decide)]⟩⟩, t1, rfl⟩)
    | succ j ih =>
      intro k V1 h1 hc0 hk m1 v1 t1
      have q1 := Nat.mod_lt (f + (c - 1)) (show 0 < 8 by decide)
      refine r_iload2 dX3_undo_43 ?_
      refine r_bipush (v := nI 56) dX3_undo_44 (by decide) ?_
      refine r_icmp_geN (tgt := 72) dX3_undo_46 (by decide) (by omega) (by omega) (fun c46 => absurd c46 (by omega)) (fun c46 => ?_)
      refine r_aload0 dX3_undo_49 ?_
      refine f_X3_13_X3 dX3_undo_50 m1.1 ?_
      refine r_iload2 dX3_undo_53 ?_
      refine r_aload0 dX3_undo_54 ?_
      refine f_X3_17_X3 dX3_undo_55 m1.1 ?_
      refine r_bipush (v := nI 56) dX3_undo_58 (by decide) ?_
      refine r_iload1 dX3_undo_60 ?_
      refine r_imul dX3_undo_61 (by first | exact pk_mul _ _ | rfl) ?_
      refine r_iload2 dX3_undo_62 ?_
      refine r_iadd dX3_undo_63 (by first | exact nI_add _ _ | rfl) ?_
      refine r_laload ((56 * ((f + (c - 1)) % 8) + k)) dX3_undo_64 (by rw [m1.2.2.1, up1_n (by decide), Yo_2]) rfl (by omega) (by rw [aL_at (by omega), show (56 * ((f + (c - 1)) % 8) + k) / 56 = (f + (c - 1)) % 8 by omega, show (56 * ((f + (c - 1)) % 8) + k) % 56 = k by omega]) ?_
      refine r_lastore (k) dX3_undo_65 (by omega) (by rw [m1.2.1, up1_s]) rfl (by omega) (by rw [aL_len]; omega) ?_
      refine r_iinc2 dX3_undo_66 (ii1 _) ?_
      refine r_goto (tgt := 43) dX3_undo_69 (by decide) ?_
      exact ih (k + 1) V1 _ hc0 (by omega) ((m1.w (f := mxf (rw_ (R (10 + (f + (c - 1)) % 8)) (A (10 + (f + (c - 1)) % 8))) (rw_ (R 1) (A 1)) (k + 1)) (by rw [aL_set, mxf_s])).to rfl up1_up1) v1 (t1.tr (mT.up (by omega)))
  refine r_aload0 dX3_undo_0 ?_
  refine r_iconst (v := nI 0) dX3_undo_1 (by decide) ?_
  refine p_X3_1_X3 dX3_undo_2 (by omega) (by first | exact m.1 | exact m0.1 | exact m1.1 | exact m2.1 | exact m3.1 | exact m4.1 | exact m5.1 | assumption | exact g_us | (rw [g_un (by omega)]; assumption) | (rw [g_un (by omega)]; exact g_us) | (rw [g_un (by omega), g_un (by omega)]; assumption) | (rw [g_un (by omega), g_un (by omega)]; exact g_us) | (rw [g_un (by omega), g_un (by omega), g_un (by omega)]; assumption) | ((repeat (rw [g_un (by omega)])); first | exact m.1 | exact m0.1 | exact m1.1 | exact m2.1 | exact m3.1 | exact m4.1 | exact m5.1 | exact g_us | assumption)) ?_
  refine m.goZ (fun h0 m0 t0 => ?_)
  refine r_aload0 dX3_undo_5 ?_
  refine f_X3_50_X3 dX3_undo_6 m0.1 ?_
  rw [vZ_n (by decide), hc]
  refine r_if_neN (tgt := 18) dX3_undo_9 (by decide) (by omega) (fun c9 => ?_) (fun c9 => ?_)
  · refine r_aload0 dX3_undo_18 ?_
    refine r_dup dX3_undo_19 ?_
    refine f_X3_50_X3 dX3_undo_20 m0.1 ?_
    refine r_iconst (v := nI 1) dX3_undo_23 (by decide) ?_
    refine r_isub dX3_undo_24 (show _ = nI (c - 1) by rw [vZ_n (by decide), hc]; exact pk_sub (by omega)) ?_
    refine p_X3_50_X3 dX3_undo_25 (by omega) m0.1 ?_
    have m1 := m0.oo (i := fup (vZ V 0) 5 (nI (c - 1))) rfl
    refine r_aload0 dX3_undo_28 ?_
    refine f_X3_53_X3 dX3_undo_29 m1.1 ?_
    refine r_aload0 dX3_undo_32 ?_
    refine f_X3_50_X3 dX3_undo_33 m1.1 ?_
    refine r_iadd dX3_undo_36 (show _ = nI (f + (c - 1)) by rw [up1_s, fup_n (by decide), vZ_n (by decide), hf, fup_s]; exact nI_add _ _) ?_
    refine r_bipush (v := nI 8) dX3_undo_37 (by decide) ?_
    refine r_irem dX3_undo_39 (nI_ne0 (by omega) (by omega)) (by first | exact pk_rem (by omega) (by omega) (by omega) | rfl) ?_
    refine r_istore1 dX3_undo_40 ?_
    refine r_iconst (v := nI 0) dX3_undo_41 (by decide) ?_
    refine r_istore2 dX3_undo_42 ?_
    exact loop 56 0 _ _ c9 (by omega) (mR.to m1 rfl (by rw [mxf_0, ← Yo_n (c := 1) (by decide) (by decide), up1_self])) rfl (t0.tr (mT.up (k := 0) (by decide)))
  · refine r_aload0 dX3_undo_12 ?_
    refine r_iconst (v := nI 1) dX3_undo_13 (by decide) ?_
    refine r_callV (M' := mX3_fails) _ dX3_undo_14 q3489 q3491 qs57 rfl (lw_all_tbl q3492) q138 (by exact pl_X3_fails) gc_X3 (by first | exact m.1 | exact m0.1 | exact m1.1 | exact m2.1 | exact m3.1 | exact m4.1 | exact m5.1 | assumption | exact g_us | (rw [g_un (by omega)]; assumption) | (rw [g_un (by omega)]; exact g_us) | (rw [g_un (by omega), g_un (by omega)]; assumption) | (rw [g_un (by omega), g_un (by omega)]; exact g_us) | (rw [g_un (by omega), g_un (by omega), g_un (by omega)]; assumption) | ((repeat (rw [g_un (by omega)])); first | exact m.1 | exact m0.1 | exact m1.1 | exact m2.1 | exact m3.1 | exact m4.1 | exact m5.1 | exact g_us | assumption)) ((k_fails hb m0)) (by omega) (Nat.le_of_ble_eq_true rfl) (by omega) (by omega) rfl (Nat.le_of_ble_eq_true rfl) rfl (kI fun r14 h14 n14 e14 => ?_) kN
    obtain ⟨rfl, m1, t1, rfl⟩ := e14
    exact r_ireturn dX3_undo_17 rfl rfl (⟨⟨fun _ => m1.fz, fun z => absurd c9 z⟩, t0.tr t1, rfl⟩)
theorem k_save (hb : k_b K ≤ a) (m : mS a V R A h) (w : wB u (R 1)) : g_Met K mX3_save 5 0 0 [.ref a] h n (gI fun r h' n' => (∃ V', r = nI (cts (R 1) + ilv (R 1)) ∧ mS a V' (up1 R 3 (R 1)) (up1 A 3 (A 1)) h' ∧ V' 0 0 = nI 0 ∧ V' 0 7 = nI 1 ∧ (∀ i, i ∈ [5, 6, 13, 15, 17, 18, 19] → V' 0 i = V 0 i) ∧ V' 6 = V 6 ∧ V' 7 = V 7) ∧ mT a h h' ∧ n' = n) gN := by
  refine g_Met.of (M := mX3_save) (L := [some (.ref a), none]) (by decide +kernel) (Nat.le_of_ble_eq_true rfl) rfl ?_
  have loop : ∀ (j k : Nat) (h1 : g_P), k + j = 56 → mR a V (up1 (Yo R A) 3 (mxf (rw_ (R 1) (A 1)) (rw_ (R 3) (A 3)) k)) h1 → mT a h h1 → g_G K mX3_save 5 0 0 (gI fun r h' n' => (∃ V', r = nI (cts (R 1) + ilv (R 1)) ∧ mS a V' (up1 R 3 (R 1)) (up1 A 3 (A 1)) h' ∧ V' 0 0 = nI 0 ∧ V' 0 7 = nI 1 ∧ (∀ i, i ∈ [5, 6, 13, 15, 17, 18, 19] → V' 0 i = V 0 i) ∧ V' 6 = V 6 ∧ V' 7 = V 7) ∧ mT a h h' ∧ n' = n) gN 2 [some (.ref a), some (.int (nI k))] [] h1 n := by
    intro j
    induction j with
    | zero =>
      intro k h1 hk m1 t1
      have hk : k = 56 := by omega
      subst hk
      have m2 : mR a V (up1 (Yo R A) 3 (rw_ (R 1) (A 1))) h1 := by
        obtain ⟨x0, x1, x2, x3, x4, x5⟩ := m1
        rw [up1_s, aL_ext (g := rw_ (R 1) (A 1)) (fun q hq => by unfold mxf; rw [if_pos hq])] at x3
        exact ⟨x0, x1, x2, by rw [up1_s]; exact x3, x4, x5⟩
      rw [Yo_up (by decide) (by decide)] at m2
      have m2 : mS a V _ _ h1 := m2
      refine r_iload1 dX3_save_2 ?_
      refine r_bipush (v := nI 56) dX3_save_3 (by decide) ?_
      refine r_icmp_geN (tgt := 26) dX3_save_5 (by decide) (by omega) (by omega) (fun c5 => ?_) (fun c5 => absurd c5 (by omega))
      refine r_aload0 dX3_save_26 ?_
      refine r_iconst (v := nI 1) dX3_save_27 (by decide) ?_
      refine p_X3_336_X3 dX3_save_28 (by omega) m2.1 ?_
      have m3 := m2.oo (i := fup (V 0) 7 (nI 1)) rfl
      refine r_aload0 dX3_save_31 ?_
      refine r_callV (M' := mX3_crumbsNow) _ dX3_save_32 q3863 q3856 q3857 rfl (lw_all_tbl q3858) q138 (by exact pl_X3_crumbsNow) gc_X3 m3.1 ((k_crumbsNow hb m3 (by rw [up1_n (by decide)]; exact w))) (by omega) (Nat.le_of_ble_eq_true rfl) (by omega) (by omega) rfl (Nat.le_of_ble_eq_true rfl) rfl (kI fun r32 h32 n32 e32 => ?_) kN
      obtain ⟨-, m4, rfl, t4, rfl⟩ := e32
      rw [up1_n (by decide)]
      exact r_ireturn dX3_save_35 rfl rfl (⟨⟨_, rfl, m4, vZ_0, by rw [vZ_n (by decide), up1_s, fup_s], fun i hi => by
              have q : i ≠ 7 ∧ i ≠ 0 := by
                simp only [List.mem_cons, List.not_mem_nil, or_false] at hi
                omega
              rw [vZ_n q.2, up1_s, fup_n q.1], by rw [vZ_c (by decide), up1_n (by decide)], by rw [vZ_c (by decide), up1_n (by decide)]⟩, (t1.tr (mT.up (k := 0) (by omega))).tr t4, rfl⟩)
    | succ j ih =>
      intro k h1 hk m1 t1
      refine r_iload1 dX3_save_2 ?_
      refine r_bipush (v := nI 56) dX3_save_3 (by decide) ?_
      refine r_icmp_geN (tgt := 26) dX3_save_5 (by decide) (by omega) (by omega) (fun c5 => absurd c5 (by omega)) (fun c5 => ?_)
      refine r_aload0 dX3_save_8 ?_
      refine f_X3_20_X3 dX3_save_9 m1.1 ?_
      refine r_iload1 dX3_save_12 ?_
      refine r_aload0 dX3_save_13 ?_
      refine f_X3_13_X3 dX3_save_14 m1.1 ?_
      refine r_iload1 dX3_save_17 ?_
      refine r_laload (k) dX3_save_18 (by rw [m1.2.1, up1_n (by decide), Yo_n (by decide) (by decide)]) rfl (by omega) (aL_at (by omega)) ?_
      refine r_lastore (k) dX3_save_19 (by omega) (by rw [m1.2.2.2.1, up1_s]) rfl (by omega) (by rw [aL_len]; omega) ?_
      refine r_iinc1 dX3_save_20 (ii1 _) ?_
      refine r_goto (tgt := 2) dX3_save_23 (by decide) ?_
      exact ih (k + 1) _ (by omega) ((m1.s (f := mxf (rw_ (R 1) (A 1)) (rw_ (R 3) (A 3)) (k + 1)) (by rw [aL_set, mxf_s])).to rfl up1_up1) (t1.tr (mT.up (by omega)))
  refine r_iconst (v := nI 0) dX3_save_0 (by decide) ?_
  refine r_istore1 dX3_save_1 ?_
  exact loop 56 0 _ (by omega) (mR.to m rfl (by rw [mxf_0, ← Yo_n (c := 3) (by decide) (by decide), up1_self])) mT.rf
theorem k_restore (hb : k_b K ≤ a) (m : mS a V R A h) (h7 : V 0 7 = nI 0 ∨ V 0 7 = nI 1) (w : V 0 7 = nI 1 → wB u (R 3)) : g_Met K mX3_restore 5 0 0 [.ref a] h n (gI fun r h' n' => ((V 0 7 = nI 0 → ∃ V', mS a V' R A h' ∧ V' 0 0 = nI 1 ∧ vE V V') ∧ (V 0 7 = nI 1 → r = nI (cts (R 3) + ilv (R 3)) ∧ ∃ V', mS a V' (up1 R 1 (R 3)) (up1 A 1 (A 3)) h' ∧ V' 0 0 = nI 0 ∧ V' 0 5 = nI 0 ∧ V' 0 6 = nI 0 ∧ (∀ i, i ∈ [7, 13, 15, 17, 18, 19] → V' 0 i = V 0 i) ∧ V' 6 = V 6 ∧ V' 7 = V 7)) ∧ mT a h h' ∧ n' = n) gN := by
  have n01 : ¬ nI 1 = nI 0 := by decide
  rcases h7 with h7 | h7
  · skip
    refine g_Met.of (M := mX3_restore) (L := [some (.ref a), none]) (by decide +kernel) (Nat.le_of_ble_eq_true rfl) rfl ?_
    refine r_aload0 dX3_restore_0 ?_
    refine r_iconst (v := nI 0) dX3_restore_1 (by decide) ?_
    refine p_X3_1_X3 dX3_restore_2 (by omega) (by first | exact m.1 | exact m0.1 | exact m1.1 | exact m2.1 | exact m3.1 | exact m4.1 | exact m5.1 | assumption | exact g_us | (rw [g_un (by omega)]; assumption) | (rw [g_un (by omega)]; exact g_us) | (rw [g_un (by omega), g_un (by omega)]; assumption) | (rw [g_un (by omega), g_un (by omega)]; exact g_us) | (rw [g_un (by omega), g_un (by omega), g_un (by omega)]; assumption) | ((repeat (rw [g_un (by omega)])); first | exact m.1 | exact m0.1 | exact m1.1 | exact m2.1 | exact m3.1 | exact m4.1 | exact m5.1 | exact g_us | assumption)) ?_
    refine m.goZ (fun h0 m0 t0 => ?_)
    refine r_aload0 dX3_restore_5 ?_
    refine f_X3_336_X3 dX3_restore_6 m0.1 ?_
    refine g_st (show _ = [Value.int (nI 0)] by rw [vZ_n (by decide), h7]) ?_
    refine r_if_neN (tgt := 18) dX3_restore_9 (by decide) (by omega) (fun c9 => absurd c9 (by omega)) (fun c9 => ?_)
    refine r_aload0 dX3_restore_12 ?_
    refine r_iconst (v := nI 1) dX3_restore_13 (by decide) ?_
    refine r_callV (M' := mX3_fails) _ dX3_restore_14 q3489 q3491 qs57 rfl (lw_all_tbl q3492) q138 (by exact pl_X3_fails) gc_X3 (by first | exact m.1 | exact m0.1 | exact m1.1 | exact m2.1 | exact m3.1 | exact m4.1 | exact m5.1 | assumption | exact g_us | (rw [g_un (by omega)]; assumption) | (rw [g_un (by omega)]; exact g_us) | (rw [g_un (by omega), g_un (by omega)]; assumption) | (rw [g_un (by omega), g_un (by omega)]; exact g_us) | (rw [g_un (by omega), g_un (by omega), g_un (by omega)]; assumption) | ((repeat (rw [g_un (by omega)])); first | exact m.1 | exact m0.1 | exact m1.1 | exact m2.1 | exact m3.1 | exact m4.1 | exact m5.1 | exact g_us | assumption)) ((k_fails hb m0)) (by omega) (Nat.le_of_ble_eq_true rfl) (by omega) (by omega) rfl (Nat.le_of_ble_eq_true rfl) rfl (kI fun r14 h14 n14 e14 => ?_) kN
    obtain ⟨rfl, m1, t1, rfl⟩ := e14
    exact r_ireturn dX3_restore_17 rfl rfl (⟨⟨fun _ => m1.fz, fun z => absurd (z.symm.trans h7) n01⟩, t0.tr t1, rfl⟩)
  · have w := w h7
    refine g_Met.of (M := mX3_restore) (L := [some (.ref a), none]) (by decide +kernel) (Nat.le_of_ble_eq_true rfl) rfl ?_
    have loop : ∀ (j k : Nat) (h1 : g_P), k + j = 56 → mR a (vZ V) (up1 (Yo R A) 1 (mxf (rw_ (R 3) (A 3)) (rw_ (R 1) (A 1)) k)) h1 → mT a h h1 → g_G K mX3_restore 5 0 0 (gI fun r h' n' => ((V 0 7 = nI 0 → ∃ V', mS a V' R A h' ∧ V' 0 0 = nI 1 ∧ vE V V') ∧ (V 0 7 = nI 1 → r = nI (cts (R 3) + ilv (R 3)) ∧ ∃ V', mS a V' (up1 R 1 (R 3)) (up1 A 1 (A 3)) h' ∧ V' 0 0 = nI 0 ∧ V' 0 5 = nI 0 ∧ V' 0 6 = nI 0 ∧ (∀ i, i ∈ [7, 13, 15, 17, 18, 19] → V' 0 i = V 0 i) ∧ V' 6 = V 6 ∧ V' 7 = V 7)) ∧ mT a h h' ∧ n' = n) gN 20 [some (.ref a), some (.int (nI k))] [] h1 n := by
      intro j
      induction j with
      | zero =>
        intro k h1 hk m1 t1
        have hk : k = 56 := by omega
        subst hk
        have m2 := m1.row1 (g := rw_ (R 3) (A 3)) (fun q hq => by unfold mxf; rw [if_pos hq])
        rw [Yo_up (by decide) (by decide)] at m2
        have m2 : mS a (vZ V) _ _ h1 := m2
        refine r_iload1 dX3_restore_20 ?_
        refine r_bipush (v := nI 56) dX3_restore_21 (by decide) ?_
        refine r_icmp_geN (tgt := 44) dX3_restore_23 (by decide) (by omega) (by omega) (fun c23 => ?_) (fun c23 => absurd c23 (by omega))
        refine r_aload0 dX3_restore_44 ?_
        refine r_iconst (v := nI 0) dX3_restore_45 (by decide) ?_
        refine p_X3_50_X3 dX3_restore_46 (by omega) m2.1 ?_
        have m3 := m2.oo (i := fup (vZ V 0) 5 (nI 0)) rfl
        refine r_aload0 dX3_restore_49 ?_
        refine r_iconst (v := nI 0) dX3_restore_50 (by decide) ?_
        refine p_X3_53_X3 dX3_restore_51 (by omega) m3.1 ?_
        have m4 := m3.oo (i := fup (fup (vZ V 0) 5 (nI 0)) 6 (nI 0)) rfl
        rw [up1_up1] at m4
        refine r_aload0 dX3_restore_54 ?_
        refine r_callV (M' := mX3_crumbsNow) _ dX3_restore_55 q3863 q3856 q3857 rfl (lw_all_tbl q3858) q138 (by exact pl_X3_crumbsNow) gc_X3 m4.1 ((k_crumbsNow hb m4 (by rw [up1_s]; exact w))) (by omega) (Nat.le_of_ble_eq_true rfl) (by omega) (by omega) rfl (Nat.le_of_ble_eq_true rfl) rfl (kI fun r55 h55 n55 e55 => ?_) kN
        obtain ⟨-, m5, rfl, t5, rfl⟩ := e55
        rw [up1_s]
        exact r_ireturn dX3_restore_58 rfl rfl (⟨⟨fun z => absurd (h7.symm.trans z) n01, fun _ => ⟨rfl, _, m5, vZ_0, by rw [vZ_n (by decide), up1_s, fup_n (by decide), fup_s], by rw [vZ_n (by decide), up1_s, fup_s], fun i hi => by
                have q : i ≠ 5 ∧ i ≠ 6 ∧ i ≠ 0 := by
                  simp only [List.mem_cons, List.not_mem_nil, or_false] at hi
                  omega
                rw [vZ_n q.2.2, up1_s, fup_n q.2.1, fup_n q.1, vZ_n q.2.2], by rw [vZ_c (by decide), up1_n (by decide), vZ_c (by decide)], by rw [vZ_c (by decide), up1_n (by decide), vZ_c (by decide)]⟩⟩, ((t1.tr (mT.up (k := 0) (by omega))).tr (mT.up (k := 0) (by omega))).tr t5, rfl⟩)
      | succ j ih =>
        intro k h1 hk m1 t1
        refine r_iload1 dX3_restore_20 ?_
        refine r_bipush (v := nI 56) dX3_restore_21 (by decide) ?_
        refine r_icmp_geN (tgt := 44) dX3_restore_23 (by decide) (by omega) (by omega) (fun c23 => absurd c23 (by omega)) (fun c23 => ?_)
        refine r_aload0 dX3_restore_26 ?_
        refine f_X3_13_X3 dX3_restore_27 m1.1 ?_
        refine r_iload1 dX3_restore_30 ?_
        refine r_aload0 dX3_restore_31 ?_
        refine f_X3_20_X3 dX3_restore_32 m1.1 ?_
        refine r_iload1 dX3_restore_35 ?_
        refine r_laload (k) dX3_restore_36 (by rw [m1.2.2.2.1, up1_n (by decide), Yo_n (by decide) (by decide)]) rfl (by omega) (aL_at (by omega)) ?_
        refine r_lastore (k) dX3_restore_37 (by omega) (by rw [m1.2.1, up1_s]) rfl (by omega) (by rw [aL_len]; omega) ?_
        refine r_iinc1 dX3_restore_38 (ii1 _) ?_
        refine r_goto (tgt := 20) dX3_restore_41 (by decide) ?_
        exact ih (k + 1) _ (by omega) ((m1.w (f := mxf (rw_ (R 3) (A 3)) (rw_ (R 1) (A 1)) (k + 1)) (by rw [aL_set, mxf_s])).to rfl up1_up1) (t1.tr (mT.up (by omega)))
    refine r_aload0 dX3_restore_0 ?_
    refine r_iconst (v := nI 0) dX3_restore_1 (by decide) ?_
    refine p_X3_1_X3 dX3_restore_2 (by omega) (by first | exact m.1 | exact m0.1 | exact m1.1 | exact m2.1 | exact m3.1 | exact m4.1 | exact m5.1 | assumption | exact g_us | (rw [g_un (by omega)]; assumption) | (rw [g_un (by omega)]; exact g_us) | (rw [g_un (by omega), g_un (by omega)]; assumption) | (rw [g_un (by omega), g_un (by omega)]; exact g_us) | (rw [g_un (by omega), g_un (by omega), g_un (by omega)]; assumption) | ((repeat (rw [g_un (by omega)])); first | exact m.1 | exact m0.1 | exact m1.1 | exact m2.1 | exact m3.1 | exact m4.1 | exact m5.1 | exact g_us | assumption)) ?_
    refine m.goZ (fun h0 m0 t0 => ?_)
    refine r_aload0 dX3_restore_5 ?_
    refine f_X3_336_X3 dX3_restore_6 m0.1 ?_
    refine g_st (show _ = [Value.int (nI 1)] by rw [vZ_n (by decide), h7]) ?_
    refine r_if_neN (tgt := 18) dX3_restore_9 (by decide) (by omega) (fun c9 => ?_) (fun c9 => absurd c9 (by omega))
    refine r_iconst (v := nI 0) dX3_restore_18 (by decide) ?_
    refine r_istore1 dX3_restore_19 ?_
    exact loop 56 0 _ (by omega) (mR.to m0 rfl (by rw [mxf_0, ← Yo_n (c := 1) (by decide) (by decide), up1_self])) t0
/-! what failed -/
theorem k_errorPosition {k : Nat} (hb : k_b K ≤ a) (m : mS a V R A h) (hk : k < 2147483648) (h7 : V 0 17 = -1 ∨ V 0 17 = nI k) : g_Met K mX3_errorPosition 2 0 0 [.ref a] h n (gI fun r h' n' => ((V 0 17 = -1 → mQ a V R A 1 0 r h') ∧ (V 0 17 = nI k → mQ a V R A 0 k r h')) ∧ mT a h h' ∧ n' = n) gN := by
  have ne : ∀ k, k < 2147483648 → ¬ (-1 : Int32) = nI k := fun k hk z => by
    have : ¬ nI k < 0 := nI_pos hk
    rw [← z] at this
    exact this (by decide)
  rcases h7 with h7 | h7
  · skip
    refine g_Met.of (M := mX3_errorPosition) (L := [some (.ref a)]) (by decide +kernel) (Nat.le_of_ble_eq_true rfl) rfl ?_
    refine r_aload0 dX3_errorPosition_0 ?_
    refine r_iconst (v := nI 0) dX3_errorPosition_1 (by decide) ?_
    refine p_X3_1_X3 dX3_errorPosition_2 (by omega) (by first | exact m.1 | exact m0.1 | exact m1.1 | exact m2.1 | exact m3.1 | exact m4.1 | exact m5.1 | assumption | exact g_us | (rw [g_un (by omega)]; assumption) | (rw [g_un (by omega)]; exact g_us) | (rw [g_un (by omega), g_un (by omega)]; assumption) | (rw [g_un (by omega), g_un (by omega)]; exact g_us) | (rw [g_un (by omega), g_un (by omega), g_un (by omega)]; assumption) | ((repeat (rw [g_un (by omega)])); first | exact m.1 | exact m0.1 | exact m1.1 | exact m2.1 | exact m3.1 | exact m4.1 | exact m5.1 | exact g_us | assumption)) ?_
    refine m.goZ (fun h0 m0 t0 => ?_)
    refine r_aload0 dX3_errorPosition_5 ?_
    refine f_X3_37_X3 dX3_errorPosition_6 m0.1 ?_
    refine g_st (show _ = [Value.int (-1)] by rw [vZ_n (by decide), h7]) ?_
    refine r_if_ge (tgt := 20) dX3_errorPosition_9 (by decide) (fun c9 => absurd c9 ((by decide))) (fun c9 => ?_)
    refine r_aload0 dX3_errorPosition_12 ?_
    refine r_iconst (v := nI 1) dX3_errorPosition_13 (by decide) ?_
    refine r_callV (M' := mX3_fails) _ dX3_errorPosition_14 q3489 q3491 qs57 rfl (lw_all_tbl q3492) q138 (by exact pl_X3_fails) gc_X3 (by first | exact m.1 | exact m0.1 | exact m1.1 | exact m2.1 | exact m3.1 | exact m4.1 | exact m5.1 | assumption | exact g_us | (rw [g_un (by omega)]; assumption) | (rw [g_un (by omega)]; exact g_us) | (rw [g_un (by omega), g_un (by omega)]; assumption) | (rw [g_un (by omega), g_un (by omega)]; exact g_us) | (rw [g_un (by omega), g_un (by omega), g_un (by omega)]; assumption) | ((repeat (rw [g_un (by omega)])); first | exact m.1 | exact m0.1 | exact m1.1 | exact m2.1 | exact m3.1 | exact m4.1 | exact m5.1 | exact g_us | assumption)) ((k_fails hb m0)) (by omega) (Nat.le_of_ble_eq_true rfl) (by omega) (by omega) rfl (Nat.le_of_ble_eq_true rfl) rfl (kI fun r14 h14 n14 e14 => ?_) kN
    obtain ⟨rfl, m1, t1, rfl⟩ := e14
    refine r_goto (tgt := 24) dX3_errorPosition_17 (by decide) ?_
    exact r_ireturn dX3_errorPosition_24 rfl rfl (⟨⟨fun _ => mQ.no (by decide) m1, fun z => absurd (h7.symm.trans z) (ne k hk)⟩, t0.tr t1, rfl⟩)
  · skip
    refine g_Met.of (M := mX3_errorPosition) (L := [some (.ref a)]) (by decide +kernel) (Nat.le_of_ble_eq_true rfl) rfl ?_
    refine r_aload0 dX3_errorPosition_0 ?_
    refine r_iconst (v := nI 0) dX3_errorPosition_1 (by decide) ?_
    refine p_X3_1_X3 dX3_errorPosition_2 (by omega) (by first | exact m.1 | exact m0.1 | exact m1.1 | exact m2.1 | exact m3.1 | exact m4.1 | exact m5.1 | assumption | exact g_us | (rw [g_un (by omega)]; assumption) | (rw [g_un (by omega)]; exact g_us) | (rw [g_un (by omega), g_un (by omega)]; assumption) | (rw [g_un (by omega), g_un (by omega)]; exact g_us) | (rw [g_un (by omega), g_un (by omega), g_un (by omega)]; assumption) | ((repeat (rw [g_un (by omega)])); first | exact m.1 | exact m0.1 | exact m1.1 | exact m2.1 | exact m3.1 | exact m4.1 | exact m5.1 | exact g_us | assumption)) ?_
    refine m.goZ (fun h0 m0 t0 => ?_)
    refine r_aload0 dX3_errorPosition_5 ?_
    refine f_X3_37_X3 dX3_errorPosition_6 m0.1 ?_
    refine g_st (show _ = [Value.int (nI k)] by rw [vZ_n (by decide), h7]) ?_
    refine r_if_geN (tgt := 20) dX3_errorPosition_9 (by decide) (by omega) (fun c9 => ?_) (fun c9 => absurd c9 (by omega))
    refine r_aload0 dX3_errorPosition_20 ?_
    refine f_X3_37_X3 dX3_errorPosition_21 m0.1 ?_
    exact r_ireturn dX3_errorPosition_24 rfl rfl (⟨⟨fun z => absurd (z.symm.trans h7) (ne k hk), fun _ => mQ.z rfl (by rw [vZ_n (by decide), h7]) m0⟩, t0, rfl⟩)
theorem k_failedCommand {k : Nat} (hb : k_b K ≤ a) (m : mS a V R A h) (hk : k < 2147483648) (h7 : V 0 18 = -1 ∨ V 0 18 = nI k) : g_Met K mX3_failedCommand 2 0 0 [.ref a] h n (gI fun r h' n' => ((V 0 18 = -1 → mQ a V R A 1 0 r h') ∧ (V 0 18 = nI k → mQ a V R A 0 k r h')) ∧ mT a h h' ∧ n' = n) gN := by
  have ne : ∀ k, k < 2147483648 → ¬ (-1 : Int32) = nI k := fun k hk z => by
    have : ¬ nI k < 0 := nI_pos hk
    rw [← z] at this
    exact this (by decide)
  rcases h7 with h7 | h7
  · skip
    refine g_Met.of (M := mX3_failedCommand) (L := [some (.ref a)]) (by decide +kernel) (Nat.le_of_ble_eq_true rfl) rfl ?_
    refine r_aload0 dX3_failedCommand_0 ?_
    refine r_iconst (v := nI 0) dX3_failedCommand_1 (by decide) ?_
    refine p_X3_1_X3 dX3_failedCommand_2 (by omega) (by first | exact m.1 | exact m0.1 | exact m1.1 | exact m2.1 | exact m3.1 | exact m4.1 | exact m5.1 | assumption | exact g_us | (rw [g_un (by omega)]; assumption) | (rw [g_un (by omega)]; exact g_us) | (rw [g_un (by omega), g_un (by omega)]; assumption) | (rw [g_un (by omega), g_un (by omega)]; exact g_us) | (rw [g_un (by omega), g_un (by omega), g_un (by omega)]; assumption) | ((repeat (rw [g_un (by omega)])); first | exact m.1 | exact m0.1 | exact m1.1 | exact m2.1 | exact m3.1 | exact m4.1 | exact m5.1 | exact g_us | assumption)) ?_
    refine m.goZ (fun h0 m0 t0 => ?_)
    refine r_aload0 dX3_failedCommand_5 ?_
    refine f_X3_40_X3 dX3_failedCommand_6 m0.1 ?_
    refine g_st (show _ = [Value.int (-1)] by rw [vZ_n (by decide), h7]) ?_
    refine r_if_ge (tgt := 20) dX3_failedCommand_9 (by decide) (fun c9 => absurd c9 ((by decide))) (fun c9 => ?_)
    refine r_aload0 dX3_failedCommand_12 ?_
    refine r_iconst (v := nI 1) dX3_failedCommand_13 (by decide) ?_
    refine r_callV (M' := mX3_fails) _ dX3_failedCommand_14 q3489 q3491 qs57 rfl (lw_all_tbl q3492) q138 (by exact pl_X3_fails) gc_X3 (by first | exact m.1 | exact m0.1 | exact m1.1 | exact m2.1 | exact m3.1 | exact m4.1 | exact m5.1 | assumption | exact g_us | (rw [g_un (by omega)]; assumption) | (rw [g_un (by omega)]; exact g_us) | (rw [g_un (by omega), g_un (by omega)]; assumption) | (rw [g_un (by omega), g_un (by omega)]; exact g_us) | (rw [g_un (by omega), g_un (by omega), g_un (by omega)]; assumption) | ((repeat (rw [g_un (by omega)])); first | exact m.1 | exact m0.1 | exact m1.1 | exact m2.1 | exact m3.1 | exact m4.1 | exact m5.1 | exact g_us | assumption)) ((k_fails hb m0)) (by omega) (Nat.le_of_ble_eq_true rfl) (by omega) (by omega) rfl (Nat.le_of_ble_eq_true rfl) rfl (kI fun r14 h14 n14 e14 => ?_) kN
    obtain ⟨rfl, m1, t1, rfl⟩ := e14
    refine r_goto (tgt := 24) dX3_failedCommand_17 (by decide) ?_
    exact r_ireturn dX3_failedCommand_24 rfl rfl (⟨⟨fun _ => mQ.no (by decide) m1, fun z => absurd (h7.symm.trans z) (ne k hk)⟩, t0.tr t1, rfl⟩)
  · skip
    refine g_Met.of (M := mX3_failedCommand) (L := [some (.ref a)]) (by decide +kernel) (Nat.le_of_ble_eq_true rfl) rfl ?_
    refine r_aload0 dX3_failedCommand_0 ?_
    refine r_iconst (v := nI 0) dX3_failedCommand_1 (by decide) ?_
    refine p_X3_1_X3 dX3_failedCommand_2 (by omega) (by first | exact m.1 | exact m0.1 | exact m1.1 | exact m2.1 | exact m3.1 | exact m4.1 | exact m5.1 | assumption | exact g_us | (rw [g_un (by omega)]; assumption) | (rw [g_un (by omega)]; exact g_us) | (rw [g_un (by omega), g_un (by omega)]; assumption) | (rw [g_un (by omega), g_un (by omega)]; exact g_us) | (rw [g_un (by omega), g_un (by omega), g_un (by omega)]; assumption) | ((repeat (rw [g_un (by omega)])); first | exact m.1 | exact m0.1 | exact m1.1 | exact m2.1 | exact m3.1 | exact m4.1 | exact m5.1 | exact g_us | assumption)) ?_
    refine m.goZ (fun h0 m0 t0 => ?_)
    refine r_aload0 dX3_failedCommand_5 ?_
    refine f_X3_40_X3 dX3_failedCommand_6 m0.1 ?_
    refine g_st (show _ = [Value.int (nI k)] by rw [vZ_n (by decide), h7]) ?_
    refine r_if_geN (tgt := 20) dX3_failedCommand_9 (by decide) (by omega) (fun c9 => ?_) (fun c9 => absurd c9 (by omega))
    refine r_aload0 dX3_failedCommand_20 ?_
    refine f_X3_40_X3 dX3_failedCommand_21 m0.1 ?_
    exact r_ireturn dX3_failedCommand_24 rfl rfl (⟨⟨fun z => absurd (z.symm.trans h7) (ne k hk), fun _ => mQ.z rfl (by rw [vZ_n (by decide), h7]) m0⟩, t0, rfl⟩)
theorem k_failureKind {k kd : Nat} (hb : k_b K ≤ a) (m : mS a V R A h) (hk : k < 2147483648) (h7 : V 0 18 = -1 ∨ V 0 18 = nI k) (h9 : V 0 19 = nI kd) (h10 : kd < 65536) : g_Met K mX3_failureKind 2 0 0 [.ref a] h n (gI fun r h' n' => ((V 0 18 = -1 → mQ a V R A 1 0 r h') ∧ (V 0 18 = nI k → mQ a V R A 0 kd r h')) ∧ mT a h h' ∧ n' = n) gN := by
  have ne : ∀ k, k < 2147483648 → ¬ (-1 : Int32) = nI k := fun k hk z => by
    have : ¬ nI k < 0 := nI_pos hk
    rw [← z] at this
    exact this (by decide)
  rcases h7 with h7 | h7
  · skip
    refine g_Met.of (M := mX3_failureKind) (L := [some (.ref a)]) (by decide +kernel) (Nat.le_of_ble_eq_true rfl) rfl ?_
    refine r_aload0 dX3_failureKind_0 ?_
    refine r_iconst (v := nI 0) dX3_failureKind_1 (by decide) ?_
    refine p_X3_1_X3 dX3_failureKind_2 (by omega) (by first | exact m.1 | exact m0.1 | exact m1.1 | exact m2.1 | exact m3.1 | exact m4.1 | exact m5.1 | assumption | exact g_us | (rw [g_un (by omega)]; assumption) | (rw [g_un (by omega)]; exact g_us) | (rw [g_un (by omega), g_un (by omega)]; assumption) | (rw [g_un (by omega), g_un (by omega)]; exact g_us) | (rw [g_un (by omega), g_un (by omega), g_un (by omega)]; assumption) | ((repeat (rw [g_un (by omega)])); first | exact m.1 | exact m0.1 | exact m1.1 | exact m2.1 | exact m3.1 | exact m4.1 | exact m5.1 | exact g_us | assumption)) ?_
    refine m.goZ (fun h0 m0 t0 => ?_)
    refine r_aload0 dX3_failureKind_5 ?_
    refine f_X3_40_X3 dX3_failureKind_6 m0.1 ?_
    refine g_st (show _ = [Value.int (-1)] by rw [vZ_n (by decide), h7]) ?_
    refine r_if_ge (tgt := 20) dX3_failureKind_9 (by decide) (fun c9 => absurd c9 ((by decide))) (fun c9 => ?_)
    refine r_aload0 dX3_failureKind_12 ?_
    refine r_iconst (v := nI 1) dX3_failureKind_13 (by decide) ?_
    refine r_callV (M' := mX3_fails) _ dX3_failureKind_14 q3489 q3491 qs57 rfl (lw_all_tbl q3492) q138 (by exact pl_X3_fails) gc_X3 (by first | exact m.1 | exact m0.1 | exact m1.1 | exact m2.1 | exact m3.1 | exact m4.1 | exact m5.1 | assumption | exact g_us | (rw [g_un (by omega)]; assumption) | (rw [g_un (by omega)]; exact g_us) | (rw [g_un (by omega), g_un (by omega)]; assumption) | (rw [g_un (by omega), g_un (by omega)]; exact g_us) | (rw [g_un (by omega), g_un (by omega), g_un (by omega)]; assumption) | ((repeat (rw [g_un (by omega)])); first | exact m.1 | exact m0.1 | exact m1.1 | exact m2.1 | exact m3.1 | exact m4.1 | exact m5.1 | exact g_us | assumption)) ((k_fails hb m0)) (by omega) (Nat.le_of_ble_eq_true rfl) (by omega) (by omega) rfl (Nat.le_of_ble_eq_true rfl) rfl (kI fun r14 h14 n14 e14 => ?_) kN
    obtain ⟨rfl, m1, t1, rfl⟩ := e14
    refine r_goto (tgt := 24) dX3_failureKind_17 (by decide) ?_
    refine r_i2c dX3_failureKind_24 (show _ = nI 0 from i2c_nI (by decide)) ?_
    exact r_ireturn dX3_failureKind_25 rfl rfl (⟨⟨fun _ => mQ.no (by decide) m1, fun z => absurd (h7.symm.trans z) (ne k hk)⟩, t0.tr t1, rfl⟩)
  · skip
    refine g_Met.of (M := mX3_failureKind) (L := [some (.ref a)]) (by decide +kernel) (Nat.le_of_ble_eq_true rfl) rfl ?_
    refine r_aload0 dX3_failureKind_0 ?_
    refine r_iconst (v := nI 0) dX3_failureKind_1 (by decide) ?_
    refine p_X3_1_X3 dX3_failureKind_2 (by omega) (by first | exact m.1 | exact m0.1 | exact m1.1 | exact m2.1 | exact m3.1 | exact m4.1 | exact m5.1 | assumption | exact g_us | (rw [g_un (by omega)]; assumption) | (rw [g_un (by omega)]; exact g_us) | (rw [g_un (by omega), g_un (by omega)]; assumption) | (rw [g_un (by omega), g_un (by omega)]; exact g_us) | (rw [g_un (by omega), g_un (by omega), g_un (by omega)]; assumption) | ((repeat (rw [g_un (by omega)])); first | exact m.1 | exact m0.1 | exact m1.1 | exact m2.1 | exact m3.1 | exact m4.1 | exact m5.1 | exact g_us | assumption)) ?_
    refine m.goZ (fun h0 m0 t0 => ?_)
    refine r_aload0 dX3_failureKind_5 ?_
    refine f_X3_40_X3 dX3_failureKind_6 m0.1 ?_
    refine g_st (show _ = [Value.int (nI k)] by rw [vZ_n (by decide), h7]) ?_
    refine r_if_geN (tgt := 20) dX3_failureKind_9 (by decide) (by omega) (fun c9 => ?_) (fun c9 => absurd c9 (by omega))
    refine r_aload0 dX3_failureKind_20 ?_
    refine f_X3_321_X3 dX3_failureKind_21 m0.1 ?_
    refine r_i2c dX3_failureKind_24 (show _ = nI kd by rw [vZ_n (by decide), h9]; exact i2c_nI h10) ?_
    exact r_ireturn dX3_failureKind_25 rfl (pk_charN h10).1 (⟨⟨fun z => absurd (z.symm.trans h7) (ne k hk), fun _ => mQ.z rfl rfl m0⟩, t0, rfl⟩)
end
