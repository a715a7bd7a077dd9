/-! reading a script: the reference's walks (printed by gen_parse.py) -/
set_option maxRecDepth 100000
/-- what is left of reading tokens, and of reading a command -/
def pT (a : Nat) (V0 : Nat → Nat → Int32) (R : Nat → Nat → Nat) (A : Nat → Nat → Int64) (t : List Nat) (X : Bool × Nat × (Nat → Nat)) (so : Int32) (r : Int32) (h' : g_P) : Prop :=
  ∃ V', r = nB (X.1 = true) ∧ mS a V' R A h' ∧ pS V0 t X.2.1 X.2.2 so V'
def pB (a : Nat) (V0 : Nat → Nat → Int32) (R : Nat → Nat → Nat) (A : Nat → Nat → Int64) (t : List Nat) (X : Nat × Bool × Nat × (Nat → Nat)) (r : Int32) (h' : g_P) : Prop :=
  ∃ V' so, r = nB (X.2.1 = true) ∧ mS a V' R A h' ∧ pS V0 t X.2.2.1 X.2.2.2 so V' ∧ (X.2.1 = true → so = nI X.1)
section
variable {a i k : Nat} {V' V0 : Nat → Nat → Int32} {R : Nat → Nat → Nat} {A : Nat → Nat → Int64} {h' : g_P} {t : List Nat} {N : Nat → Nat} {so r : Int32}
theorem pT.yes {X : Bool × Nat × (Nat → Nat)} (hr : X = (true, i, N)) (m : mS a V' R A h') (q : pS V0 t i N so V') : pT a V0 R A t X so (nI 1) h' := by
  subst hr
  exact ⟨V', nB_t rfl, m, q⟩
theorem pT.no {X : Bool × Nat × (Nat → Nat)} (hr : X = (false, i, N)) (m : mS a V' R A h') (q : pS V0 t i N so V') : pT a V0 R A t X so (nI 0) h' := by
  subst hr
  exact ⟨V', nB_f (fun z => by cases z), m, q⟩
theorem pB.yes {X : Nat × Bool × Nat × (Nat → Nat)} (hX : X = (k, true, i, N)) (hs : so = nI k) (m : mS a V' R A h') (q : pS V0 t i N so V') : pB a V0 R A t X (nI 1) h' := by
  subst hX
  exact ⟨V', so, nB_t rfl, m, q, fun _ => hs⟩
theorem pB.no {X : Nat × Bool × Nat × (Nat → Nat)} (hX : X = (k, false, i, N)) (m : mS a V' R A h') (q : pS V0 t i N so V') : pB a V0 R A t X (nI 0) h' := by
  subst hX
  exact ⟨V', so, nB_f (fun z => by cases z), m, q, fun z => by cases z⟩
theorem pB.of {X : Nat × Bool × Nat × (Nat → Nat)} {Y : Bool × Nat × (Nat → Nat)} (hX : X = (k, Y)) (hs : so = nI k) (p : pT a V0 R A t Y so r h') : pB a V0 R A t X r h' := by
  subst hX
  obtain ⟨V', h1, h2, h3⟩ := p
  exact ⟨V', so, h1, h2, h3, fun _ => hs⟩
end
section
variable {K : g_K} {a n i k : Nat} {V V0 : Nat → Nat → Int32} {R : Nat → Nat → Nat} {A : Nat → Nat → Int64} {h : g_P} {t : List Nat} {N : Nat → Nat} {so : Int32}
theorem k_readsTwo (hb : k_b K ≤ a) (m : mS a V R A h) (q : pS V0 t i N so V) : g_Met K mX3_readsTwo 3 0 0 [.ref a] h n (gI fun r h' n' => pT a V0 R A t (runT t [32, 1000, 1001] (i, N)) so r h' ∧ mT a h h' ∧ n' = n) gN := by
  have hr0 : runT t [32, 1000, 1001] (i, N) = runT t [32, 1000, 1001] (i, N) := rfl
  have T0 : mT a h h := mT.rf
  refine g_Met.of (M := mX3_readsTwo) (L := [some (.ref a)]) (by decide +kernel) (Nat.le_of_ble_eq_true rfl) rfl ?_
  refine r_aload0 dX3_readsTwo_0 ?_
  refine r_bipush (v := nI 32) dX3_readsTwo_1 (by decide) ?_
  refine r_callV (M' := mX3_reads) _ dX3_readsTwo_3 q3928 q3930 qs113 rfl (lw_all_tbl q3931) q138 (by exact pl_X3_reads) gc_X3 m.1 ((k_reads hb m q (by decide))) (by omega) (Nat.le_of_ble_eq_true rfl) (by omega) (by omega) rfl (Nat.le_of_ble_eq_true rfl) rfl (kI fun r3 h3 n3 e3 => ?_) kN
  obtain ⟨V3, rfl, m3, q3, t3, rfl⟩ := e3
  have T3 := T0.tr t3
  refine r_if_eqB (tgt := 29) dX3_readsTwo_6 (by decide) (fun c6 => ?_) (fun c6 => ?_)
  · refine r_iconst (v := nI 0) dX3_readsTwo_29 (by decide) ?_
    exact r_ireturn dX3_readsTwo_30 rfl (by first | exact nB_nar | rfl) ((by rw [if_neg c6] at q3; exact ⟨pT.no (hr0.trans (runT_cn (by decide) c6)) m3 q3, T3, rfl⟩))
  · rw [if_pos c6] at q3
    have hr3 := hr0.trans (runT_cy (by decide) c6)
    refine r_aload0 dX3_readsTwo_9 ?_
    refine r_iconst (v := nI 0) dX3_readsTwo_10 (by decide) ?_
    refine r_callV (M' := mX3_readsDigit) _ dX3_readsTwo_11 q3936 q3938 qs115 rfl (lw_all_tbl q3939) q138 (by exact pl_X3_readsDigit) gc_X3 m3.1 ((k_readsDigit (k := 0) hb m3 q3 (by decide))) (by omega) (Nat.le_of_ble_eq_true rfl) (by omega) (by omega) rfl (Nat.le_of_ble_eq_true rfl) rfl (kI fun r11 h11 n11 e11 => ?_) kN
    obtain ⟨V11, rfl, m11, q11, t11, rfl⟩ := e11
    have T11 := T3.tr t11
    refine r_if_eqB (tgt := 29) dX3_readsTwo_14 (by decide) (fun c14 => ?_) (fun c14 => ?_)
    · refine r_iconst (v := nI 0) dX3_readsTwo_29 (by decide) ?_
      exact r_ireturn dX3_readsTwo_30 rfl (by first | exact nB_nar | rfl) ((by rw [if_neg c14, if_neg c14] at q11; exact ⟨pT.no (hr3.trans (runT_dn (k := 0) (by decide) c14)) m11 q11, T11, rfl⟩))
    · rw [if_pos c14, if_pos c14] at q11
      have hr11 := hr3.trans (runT_dy (k := 0) (by decide) c14)
      refine r_aload0 dX3_readsTwo_17 ?_
      refine r_iconst (v := nI 1) dX3_readsTwo_18 (by decide) ?_
      refine r_callV (M' := mX3_readsDigit) _ dX3_readsTwo_19 q3936 q3938 qs115 rfl (lw_all_tbl q3939) q138 (by exact pl_X3_readsDigit) gc_X3 m11.1 ((k_readsDigit (k := 1) hb m11 q11 (by decide))) (by omega) (Nat.le_of_ble_eq_true rfl) (by omega) (by omega) rfl (Nat.le_of_ble_eq_true rfl) rfl (kI fun r19 h19 n19 e19 => ?_) kN
      obtain ⟨V19, rfl, m19, q19, t19, rfl⟩ := e19
      have T19 := T11.tr t19
      refine r_if_eqB (tgt := 29) dX3_readsTwo_22 (by decide) (fun c22 => ?_) (fun c22 => ?_)
      · refine r_iconst (v := nI 0) dX3_readsTwo_29 (by decide) ?_
        exact r_ireturn dX3_readsTwo_30 rfl (by first | exact nB_nar | rfl) ((by rw [if_neg c22, if_neg c22] at q19; exact ⟨pT.no (hr11.trans (runT_dn (k := 1) (by decide) c22)) m19 q19, T19, rfl⟩))
      · rw [if_pos c22, if_pos c22] at q19
        have hr19 := hr11.trans (runT_dy (k := 1) (by decide) c22)
        refine r_iconst (v := nI 1) dX3_readsTwo_25 (by decide) ?_
        refine r_goto (tgt := 30) dX3_readsTwo_26 (by decide) ?_
        exact r_ireturn dX3_readsTwo_30 rfl (by first | exact nB_nar | rfl) (⟨pT.yes hr19 m19 q19, T19, rfl⟩)
theorem k_readsRule (hb : k_b K ≤ a) (m : mS a V R A h) (q : pS V0 t i N so V) : g_Met K mX3_readsRule 3 0 0 [.ref a] h n (gI fun r h' n' => pT a V0 R A t (runT t [111, 117, 110, 100, 32, 3000] (i, N)) so r h' ∧ mT a h h' ∧ n' = n) gN := by
  have hr0 : runT t [111, 117, 110, 100, 32, 3000] (i, N) = runT t [111, 117, 110, 100, 32, 3000] (i, N) := rfl
  have T0 : mT a h h := mT.rf
  refine g_Met.of (M := mX3_readsRule) (L := [some (.ref a)]) (by decide +kernel) (Nat.le_of_ble_eq_true rfl) rfl ?_
  refine r_aload0 dX3_readsRule_0 ?_
  refine r_bipush (v := nI 111) dX3_readsRule_1 (by decide) ?_
  refine r_callV (M' := mX3_reads) _ dX3_readsRule_3 q3928 q3930 qs113 rfl (lw_all_tbl q3931) q138 (by exact pl_X3_reads) gc_X3 m.1 ((k_reads hb m q (by decide))) (by omega) (Nat.le_of_ble_eq_true rfl) (by omega) (by omega) rfl (Nat.le_of_ble_eq_true rfl) rfl (kI fun r3 h3 n3 e3 => ?_) kN
  obtain ⟨V3, rfl, m3, q3, t3, rfl⟩ := e3
  have T3 := T0.tr t3
  refine r_if_eqB (tgt := 55) dX3_readsRule_6 (by decide) (fun c6 => ?_) (fun c6 => ?_)
  · refine r_iconst (v := nI 0) dX3_readsRule_55 (by decide) ?_
    exact r_ireturn dX3_readsRule_56 rfl (by first | exact nB_nar | rfl) ((by rw [if_neg c6] at q3; exact ⟨pT.no (hr0.trans (runT_cn (by decide) c6)) m3 q3, T3, rfl⟩))
  · rw [if_pos c6] at q3
    have hr3 := hr0.trans (runT_cy (by decide) c6)
    refine r_aload0 dX3_readsRule_9 ?_
    refine r_bipush (v := nI 117) dX3_readsRule_10 (by decide) ?_
    refine r_callV (M' := mX3_reads) _ dX3_readsRule_12 q3928 q3930 qs113 rfl (lw_all_tbl q3931) q138 (by exact pl_X3_reads) gc_X3 m3.1 ((k_reads hb m3 q3 (by decide))) (by omega) (Nat.le_of_ble_eq_true rfl) (by omega) (by omega) rfl (Nat.le_of_ble_eq_true rfl) rfl (kI fun r12 h12 n12 e12 => ?_) kN
    obtain ⟨V12, rfl, m12, q12, t12, rfl⟩ := e12
    have T12 := T3.tr t12
    refine r_if_eqB (tgt := 55) dX3_readsRule_15 (by decide) (fun c15 => ?_) (fun c15 => ?_)
    · refine r_iconst (v := nI 0) dX3_readsRule_55 (by decide) ?_
      exact r_ireturn dX3_readsRule_56 rfl (by first | exact nB_nar | rfl) ((by rw [if_neg c15] at q12; exact ⟨pT.no (hr3.trans (runT_cn (by decide) c15)) m12 q12, T12, rfl⟩))
    · rw [if_pos c15] at q12
      have hr12 := hr3.trans (runT_cy (by decide) c15)
      refine r_aload0 dX3_readsRule_18 ?_
      refine r_bipush (v := nI 110) dX3_readsRule_19 (by decide) ?_
      refine r_callV (M' := mX3_reads) _ dX3_readsRule_21 q3928 q3930 qs113 rfl (lw_all_tbl q3931) q138 (by exact pl_X3_reads) gc_X3 m12.1 ((k_reads hb m12 q12 (by decide))) (by omega) (Nat.le_of_ble_eq_true rfl) (by omega) (by omega) rfl (Nat.le_of_ble_eq_true rfl) rfl (kI fun r21 h21 n21 e21 => ?_) kN
      obtain ⟨V21, rfl, m21, q21, t21, rfl⟩ := e21
      have T21 := T12.tr t21
      refine r_if_eqB (tgt := 55) dX3_readsRule_24 (by decide) (fun c24 => ?_) (fun c24 => ?_)
      · refine r_iconst (v := nI 0) dX3_readsRule_55 (by decide) ?_
        exact r_ireturn dX3_readsRule_56 rfl (by first | exact nB_nar | rfl) ((by rw [if_neg c24] at q21; exact ⟨pT.no (hr12.trans (runT_cn (by decide) c24)) m21 q21, T21, rfl⟩))
      · rw [if_pos c24] at q21
        have hr21 := hr12.trans (runT_cy (by decide) c24)
        refine r_aload0 dX3_readsRule_27 ?_
        refine r_bipush (v := nI 100) dX3_readsRule_28 (by decide) ?_
        refine r_callV (M' := mX3_reads) _ dX3_readsRule_30 q3928 q3930 qs113 rfl (lw_all_tbl q3931) q138 (by exact pl_X3_reads) gc_X3 m21.1 ((k_reads hb m21 q21 (by decide))) (by omega) (Nat.le_of_ble_eq_true rfl) (by omega) (by omega) rfl (Nat.le_of_ble_eq_true rfl) rfl (kI fun r30 h30 n30 e30 => ?_) kN
        obtain ⟨V30, rfl, m30, q30, t30, rfl⟩ := e30
        have T30 := T21.tr t30
        refine r_if_eqB (tgt := 55) dX3_readsRule_33 (by decide) (fun c33 => ?_) (fun c33 => ?_)
        · refine r_iconst (v := nI 0) dX3_readsRule_55 (by decide) ?_
          exact r_ireturn dX3_readsRule_56 rfl (by first | exact nB_nar | rfl) ((by rw [if_neg c33] at q30; exact ⟨pT.no (hr21.trans (runT_cn (by decide) c33)) m30 q30, T30, rfl⟩))
        · rw [if_pos c33] at q30
          have hr30 := hr21.trans (runT_cy (by decide) c33)
          refine r_aload0 dX3_readsRule_36 ?_
          refine r_bipush (v := nI 32) dX3_readsRule_37 (by decide) ?_
          refine r_callV (M' := mX3_reads) _ dX3_readsRule_39 q3928 q3930 qs113 rfl (lw_all_tbl q3931) q138 (by exact pl_X3_reads) gc_X3 m30.1 ((k_reads hb m30 q30 (by decide))) (by omega) (Nat.le_of_ble_eq_true rfl) (by omega) (by omega) rfl (Nat.le_of_ble_eq_true rfl) rfl (kI fun r39 h39 n39 e39 => ?_) kN
          obtain ⟨V39, rfl, m39, q39, t39, rfl⟩ := e39
          have T39 := T30.tr t39
          refine r_if_eqB (tgt := 55) dX3_readsRule_42 (by decide) (fun c42 => ?_) (fun c42 => ?_)
          · refine r_iconst (v := nI 0) dX3_readsRule_55 (by decide) ?_
            exact r_ireturn dX3_readsRule_56 rfl (by first | exact nB_nar | rfl) ((by rw [if_neg c42] at q39; exact ⟨pT.no (hr30.trans (runT_cn (by decide) c42)) m39 q39, T39, rfl⟩))
          · rw [if_pos c42] at q39
            have hr39 := hr30.trans (runT_cy (by decide) c42)
            refine r_aload0 dX3_readsRule_45 ?_
            refine r_callV (M' := mX3_nextChar) _ dX3_readsRule_46 q3924 q3926 qs112 rfl (lw_all_tbl q3927) q138 (by exact pl_X3_nextChar) gc_X3 m39.1 ((k_nextChar m39 q39)) (by omega) (Nat.le_of_ble_eq_true rfl) (by omega) (by omega) rfl (Nat.le_of_ble_eq_true rfl) rfl (kI fun r46 h46 n46 e46 => ?_) kN
            obtain ⟨rfl, rfl, rfl⟩ := e46
            refine r_callS (M' := mX3_isRule) _ dX3_readsRule_49 q3612 q3613 rfl (lw_all_tbl q3614) q138 (by exact pl_X3_isRule)  (k_isRule) (by omega) (Nat.le_of_ble_eq_true rfl) (by omega) (by omega) rfl (Nat.le_of_ble_eq_true rfl) rfl (kI fun r49 h49 n49 e49 => ?_) kN
            obtain ⟨rfl, rfl, rfl⟩ := e49
            refine r_if_neB (tgt := 57) dX3_readsRule_52 (by decide) (fun c52 => ?_) (fun c52 => ?_)
            · have c52 := (nx_r q39).mp c52
              have hc := (q39.ch c52.1).2
              refine r_aload0 dX3_readsRule_57 ?_
              refine f_X3_43_X3 dX3_readsRule_58 m39.1 ?_
              refine r_iconst (v := nI 0) dX3_readsRule_61 (by decide) ?_
              refine r_aload0 dX3_readsRule_62 ?_
              refine r_callV (M' := mX3_nextChar) _ dX3_readsRule_63 q3924 q3926 qs112 rfl (lw_all_tbl q3927) q138 (by exact pl_X3_nextChar) gc_X3 m39.1 ((k_nextChar m39 q39)) (by omega) (Nat.le_of_ble_eq_true rfl) (by omega) (by omega) rfl (Nat.le_of_ble_eq_true rfl) rfl (kI fun r63 h63 n63 e63 => ?_) kN
              obtain ⟨rfl, rfl, rfl⟩ := e63
              unfold nxI
              rw [if_pos c52.1]
              refine r_iastore (0) dX3_readsRule_66 (by omega) m39.nn rfl (by omega) (by rw [aI_len]; omega) ?_
              refine m39.goN (fun hA mA tA => ?_)
              have qA := q39.nu (k := 0) (x := t.getD (i + 1 + 1 + 1 + 1 + 1) 0) (by decide)
              refine r_aload0 dX3_readsRule_67 ?_
              refine r_dup dX3_readsRule_68 ?_
              refine f_X3_277_X3 dX3_readsRule_69 mA.1 ?_
              refine r_iconst (v := nI 1) dX3_readsRule_72 (by decide) ?_
              refine r_iadd dX3_readsRule_73 (show _ = nI (_ + 1) by rw [qA.2.1]; exact nI_add _ _) ?_
              refine p_X3_277_X3 dX3_readsRule_74 (by omega) mA.1 ?_
              refine r_iconst (v := nI 1) dX3_readsRule_77 (by decide) ?_
              exact r_ireturn dX3_readsRule_78 rfl (by first | exact nB_nar | rfl) (⟨pT.yes (hr39.trans (runT_ry c52)) (mA.oo rfl) (qA.at c52.1), (T39.tr tA).tr (mT.up (k := 0) (by decide)), rfl⟩)
            · refine r_iconst (v := nI 0) dX3_readsRule_55 (by decide) ?_
              exact r_ireturn dX3_readsRule_56 rfl (by first | exact nB_nar | rfl) ((by have c52 := fun z => c52 ((nx_r q39).mpr z); exact ⟨pT.no (hr39.trans (runT_rn c52)) m39 q39, T39, rfl⟩))
theorem k_readsB (hb : k_b K ≤ a) (m : mS a V R A h) (q : pS V0 t i N so V) (hs : so = nI 98) : g_Met K mX3_readsB 4 0 0 [.ref a] h n (gI fun r h' n' => pB a V0 R A t (cmdB t (i, N)) r h' ∧ mT a h h' ∧ n' = n) gN := by
  refine g_Met.of (M := mX3_readsB) (L := [some (.ref a)]) (by decide +kernel) (Nat.le_of_ble_eq_true rfl) rfl ?_
  refine r_aload0 dX3_readsB_0 ?_
  refine r_bipush (v := nI 111) dX3_readsB_1 (by decide) ?_
  refine r_callV (M' := mX3_reads) _ dX3_readsB_3 q3928 q3930 qs113 rfl (lw_all_tbl q3931) q138 (by exact pl_X3_reads) gc_X3 m.1 ((k_reads hb m q (by decide))) (by omega) (Nat.le_of_ble_eq_true rfl) (by omega) (by omega) rfl (Nat.le_of_ble_eq_true rfl) rfl (kI fun r3 h3 n3 e3 => ?_) kN
  obtain ⟨V3, rfl, m3, q3, t3, rfl⟩ := e3
  refine r_if_eqB (tgt := 50) dX3_readsB_6 (by decide) (fun c6 => ?_) (fun c6 => ?_)
  · rw [if_neg c6] at q3
    have hX : cmdB t (i, N) = (107, runT t [97, 107, 101, 32, 1000] (i, N)) := if_neg c6
    have hr0 : runT t [97, 107, 101, 32, 1000] (i, N) = runT t [97, 107, 101, 32, 1000] (i, N) := rfl
    refine r_aload0 dX3_readsB_50 ?_
    refine r_bipush (v := nI 107) dX3_readsB_51 (by decide) ?_
    refine p_X3_292_X3 dX3_readsB_53 (by omega) m3.1 ?_
    refine m3.goI (i := fup (V3 0) 21 (nI 107)) (fun hB mB tB => ?_)
    have qB := q3.srt (x := nI 107)
    have TB := t3.tr tB
    refine r_aload0 dX3_readsB_56 ?_
    refine r_bipush (v := nI 97) dX3_readsB_57 (by decide) ?_
    refine r_callV (M' := mX3_reads) _ dX3_readsB_59 q3928 q3930 qs113 rfl (lw_all_tbl q3931) q138 (by exact pl_X3_reads) gc_X3 mB.1 ((k_reads hb mB qB (by decide))) (by omega) (Nat.le_of_ble_eq_true rfl) (by omega) (by omega) rfl (Nat.le_of_ble_eq_true rfl) rfl (kI fun r59 h59 n59 e59 => ?_) kN
    obtain ⟨V59, rfl, m59, q59, t59, rfl⟩ := e59
    have T59 := TB.tr t59
    refine r_if_eqB (tgt := 104) dX3_readsB_62 (by decide) (fun c62 => ?_) (fun c62 => ?_)
    · refine r_iconst (v := nI 0) dX3_readsB_104 (by decide) ?_
      exact r_ireturn dX3_readsB_105 rfl (by first | exact nB_nar | rfl) ((by rw [if_neg c62] at q59; exact ⟨pB.no (hX.trans (congrArg (Prod.mk 107) (hr0.trans (runT_cn (by decide) c62)))) m59 q59, T59, rfl⟩))
    · rw [if_pos c62] at q59
      have hr59 := hr0.trans (runT_cy (by decide) c62)
      refine r_aload0 dX3_readsB_65 ?_
      refine r_bipush (v := nI 107) dX3_readsB_66 (by decide) ?_
      refine r_callV (M' := mX3_reads) _ dX3_readsB_68 q3928 q3930 qs113 rfl (lw_all_tbl q3931) q138 (by exact pl_X3_reads) gc_X3 m59.1 ((k_reads hb m59 q59 (by decide))) (by omega) (Nat.le_of_ble_eq_true rfl) (by omega) (by omega) rfl (Nat.le_of_ble_eq_true rfl) rfl (kI fun r68 h68 n68 e68 => ?_) kN
      obtain ⟨V68, rfl, m68, q68, t68, rfl⟩ := e68
      have T68 := T59.tr t68
      refine r_if_eqB (tgt := 104) dX3_readsB_71 (by decide) (fun c71 => ?_) (fun c71 => ?_)
      · refine r_iconst (v := nI 0) dX3_readsB_104 (by decide) ?_
        exact r_ireturn dX3_readsB_105 rfl (by first | exact nB_nar | rfl) ((by rw [if_neg c71] at q68; exact ⟨pB.no (hX.trans (congrArg (Prod.mk 107) (hr59.trans (runT_cn (by decide) c71)))) m68 q68, T68, rfl⟩))
      · rw [if_pos c71] at q68
        have hr68 := hr59.trans (runT_cy (by decide) c71)
        refine r_aload0 dX3_readsB_74 ?_
        refine r_bipush (v := nI 101) dX3_readsB_75 (by decide) ?_
        refine r_callV (M' := mX3_reads) _ dX3_readsB_77 q3928 q3930 qs113 rfl (lw_all_tbl q3931) q138 (by exact pl_X3_reads) gc_X3 m68.1 ((k_reads hb m68 q68 (by decide))) (by omega) (Nat.le_of_ble_eq_true rfl) (by omega) (by omega) rfl (Nat.le_of_ble_eq_true rfl) rfl (kI fun r77 h77 n77 e77 => ?_) kN
        obtain ⟨V77, rfl, m77, q77, t77, rfl⟩ := e77
        have T77 := T68.tr t77
        refine r_if_eqB (tgt := 104) dX3_readsB_80 (by decide) (fun c80 => ?_) (fun c80 => ?_)
        · refine r_iconst (v := nI 0) dX3_readsB_104 (by decide) ?_
          exact r_ireturn dX3_readsB_105 rfl (by first | exact nB_nar | rfl) ((by rw [if_neg c80] at q77; exact ⟨pB.no (hX.trans (congrArg (Prod.mk 107) (hr68.trans (runT_cn (by decide) c80)))) m77 q77, T77, rfl⟩))
        · rw [if_pos c80] at q77
          have hr77 := hr68.trans (runT_cy (by decide) c80)
          refine r_aload0 dX3_readsB_83 ?_
          refine r_bipush (v := nI 32) dX3_readsB_84 (by decide) ?_
          refine r_callV (M' := mX3_reads) _ dX3_readsB_86 q3928 q3930 qs113 rfl (lw_all_tbl q3931) q138 (by exact pl_X3_reads) gc_X3 m77.1 ((k_reads hb m77 q77 (by decide))) (by omega) (Nat.le_of_ble_eq_true rfl) (by omega) (by omega) rfl (Nat.le_of_ble_eq_true rfl) rfl (kI fun r86 h86 n86 e86 => ?_) kN
          obtain ⟨V86, rfl, m86, q86, t86, rfl⟩ := e86
          have T86 := T77.tr t86
          refine r_if_eqB (tgt := 104) dX3_readsB_89 (by decide) (fun c89 => ?_) (fun c89 => ?_)
          · refine r_iconst (v := nI 0) dX3_readsB_104 (by decide) ?_
            exact r_ireturn dX3_readsB_105 rfl (by first | exact nB_nar | rfl) ((by rw [if_neg c89] at q86; exact ⟨pB.no (hX.trans (congrArg (Prod.mk 107) (hr77.trans (runT_cn (by decide) c89)))) m86 q86, T86, rfl⟩))
          · rw [if_pos c89] at q86
            have hr86 := hr77.trans (runT_cy (by decide) c89)
            refine r_aload0 dX3_readsB_92 ?_
            refine r_iconst (v := nI 0) dX3_readsB_93 (by decide) ?_
            refine r_callV (M' := mX3_readsDigit) _ dX3_readsB_94 q3936 q3938 qs115 rfl (lw_all_tbl q3939) q138 (by exact pl_X3_readsDigit) gc_X3 m86.1 ((k_readsDigit (k := 0) hb m86 q86 (by decide))) (by omega) (Nat.le_of_ble_eq_true rfl) (by omega) (by omega) rfl (Nat.le_of_ble_eq_true rfl) rfl (kI fun r94 h94 n94 e94 => ?_) kN
            obtain ⟨V94, rfl, m94, q94, t94, rfl⟩ := e94
            have T94 := T86.tr t94
            refine r_if_eqB (tgt := 104) dX3_readsB_97 (by decide) (fun c97 => ?_) (fun c97 => ?_)
            · refine r_iconst (v := nI 0) dX3_readsB_104 (by decide) ?_
              exact r_ireturn dX3_readsB_105 rfl (by first | exact nB_nar | rfl) ((by rw [if_neg c97, if_neg c97] at q94; exact ⟨pB.no (hX.trans (congrArg (Prod.mk 107) (hr86.trans (runT_dn (k := 0) (by decide) c97)))) m94 q94, T94, rfl⟩))
            · rw [if_pos c97, if_pos c97] at q94
              have hr94 := hr86.trans (runT_dy (k := 0) (by decide) c97)
              refine r_iconst (v := nI 1) dX3_readsB_100 (by decide) ?_
              refine r_goto (tgt := 105) dX3_readsB_101 (by decide) ?_
              exact r_ireturn dX3_readsB_105 rfl (by first | exact nB_nar | rfl) (⟨pB.yes (hX.trans (congrArg (Prod.mk 107) hr94)) rfl m94 q94, T94, rfl⟩)
  · rw [if_pos c6] at q3
    have hX : cmdB t (i, N) = (98, runT t [119, 108, 32, 2000] (i + 1, N)) := if_pos c6
    have hr0 : runT t [119, 108, 32, 2000] (i + 1, N) = runT t [119, 108, 32, 2000] (i + 1, N) := rfl
    refine r_aload0 dX3_readsB_9 ?_
    refine r_bipush (v := nI 119) dX3_readsB_10 (by decide) ?_
    refine r_callV (M' := mX3_reads) _ dX3_readsB_12 q3928 q3930 qs113 rfl (lw_all_tbl q3931) q138 (by exact pl_X3_reads) gc_X3 m3.1 ((k_reads hb m3 q3 (by decide))) (by omega) (Nat.le_of_ble_eq_true rfl) (by omega) (by omega) rfl (Nat.le_of_ble_eq_true rfl) rfl (kI fun r12 h12 n12 e12 => ?_) kN
    obtain ⟨V12, rfl, m12, q12, t12, rfl⟩ := e12
    have T12 := t3.tr t12
    refine r_if_eqB (tgt := 48) dX3_readsB_15 (by decide) (fun c15 => ?_) (fun c15 => ?_)
    · refine r_iconst (v := nI 0) dX3_readsB_48 (by decide) ?_
      exact r_ireturn dX3_readsB_49 rfl (by first | exact nB_nar | rfl) ((by rw [if_neg c15] at q12; exact ⟨pB.no (hX.trans (congrArg (Prod.mk 98) (hr0.trans (runT_cn (by decide) c15)))) m12 q12, T12, rfl⟩))
    · rw [if_pos c15] at q12
      have hr12 := hr0.trans (runT_cy (by decide) c15)
      refine r_aload0 dX3_readsB_18 ?_
      refine r_bipush (v := nI 108) dX3_readsB_19 (by decide) ?_
      refine r_callV (M' := mX3_reads) _ dX3_readsB_21 q3928 q3930 qs113 rfl (lw_all_tbl q3931) q138 (by exact pl_X3_reads) gc_X3 m12.1 ((k_reads hb m12 q12 (by decide))) (by omega) (Nat.le_of_ble_eq_true rfl) (by omega) (by omega) rfl (Nat.le_of_ble_eq_true rfl) rfl (kI fun r21 h21 n21 e21 => ?_) kN
      obtain ⟨V21, rfl, m21, q21, t21, rfl⟩ := e21
      have T21 := T12.tr t21
      refine r_if_eqB (tgt := 48) dX3_readsB_24 (by decide) (fun c24 => ?_) (fun c24 => ?_)
      · refine r_iconst (v := nI 0) dX3_readsB_48 (by decide) ?_
        exact r_ireturn dX3_readsB_49 rfl (by first | exact nB_nar | rfl) ((by rw [if_neg c24] at q21; exact ⟨pB.no (hX.trans (congrArg (Prod.mk 98) (hr12.trans (runT_cn (by decide) c24)))) m21 q21, T21, rfl⟩))
      · rw [if_pos c24] at q21
        have hr21 := hr12.trans (runT_cy (by decide) c24)
        refine r_aload0 dX3_readsB_27 ?_
        refine r_bipush (v := nI 32) dX3_readsB_28 (by decide) ?_
        refine r_callV (M' := mX3_reads) _ dX3_readsB_30 q3928 q3930 qs113 rfl (lw_all_tbl q3931) q138 (by exact pl_X3_reads) gc_X3 m21.1 ((k_reads hb m21 q21 (by decide))) (by omega) (Nat.le_of_ble_eq_true rfl) (by omega) (by omega) rfl (Nat.le_of_ble_eq_true rfl) rfl (kI fun r30 h30 n30 e30 => ?_) kN
        obtain ⟨V30, rfl, m30, q30, t30, rfl⟩ := e30
        have T30 := T21.tr t30
        refine r_if_eqB (tgt := 48) dX3_readsB_33 (by decide) (fun c33 => ?_) (fun c33 => ?_)
        · refine r_iconst (v := nI 0) dX3_readsB_48 (by decide) ?_
          exact r_ireturn dX3_readsB_49 rfl (by first | exact nB_nar | rfl) ((by rw [if_neg c33] at q30; exact ⟨pB.no (hX.trans (congrArg (Prod.mk 98) (hr21.trans (runT_cn (by decide) c33)))) m30 q30, T30, rfl⟩))
        · rw [if_pos c33] at q30
          have hr30 := hr21.trans (runT_cy (by decide) c33)
          refine r_aload0 dX3_readsB_36 ?_
          refine r_iconst (v := nI 0) dX3_readsB_37 (by decide) ?_
          refine r_callV (M' := mX3_readsNumber) _ dX3_readsB_38 q3932 q3934 qs114 rfl (lw_all_tbl q3935) q138 (by exact pl_X3_readsNumber) gc_X3 m30.1 ((k_readsNumber (k := 0) hb m30 q30 (by decide))) (by omega) (Nat.le_of_ble_eq_true rfl) (by omega) (by omega) rfl (Nat.le_of_ble_eq_true rfl) rfl (kI fun r38 h38 n38 e38 => ?_) kN
          obtain ⟨V38, rfl, m38, q38, t38, rfl⟩ := e38
          have T38 := T30.tr t38
          refine r_if_eqB (tgt := 48) dX3_readsB_41 (by decide) (fun c41 => ?_) (fun c41 => ?_)
          · refine r_iconst (v := nI 0) dX3_readsB_48 (by decide) ?_
            exact r_ireturn dX3_readsB_49 rfl (by first | exact nB_nar | rfl) ((by rw [if_neg c41, if_neg c41] at q38; exact ⟨pB.no (hX.trans (congrArg (Prod.mk 98) (hr30.trans (runT_nn (k := 0) (by decide) c41)))) m38 q38, T38, rfl⟩))
          · rw [if_pos c41, if_pos c41] at q38
            have hr38 := hr30.trans (runT_ny (k := 0) (by decide) c41)
            refine r_iconst (v := nI 1) dX3_readsB_44 (by decide) ?_
            refine r_goto (tgt := 49) dX3_readsB_45 (by decide) ?_
            exact r_ireturn dX3_readsB_49 rfl (by first | exact nB_nar | rfl) (⟨pB.yes (hX.trans (congrArg (Prod.mk 98) hr38)) hs m38 q38, T38, rfl⟩)
theorem k_readsS (hb : k_b K ≤ a) (m : mS a V R A h) (q : pS V0 t i N so V) (hs : so = nI 115) : g_Met K mX3_readsS 4 0 0 [.ref a] h n (gI fun r h' n' => pB a V0 R A t (cmdS t (i, N)) r h' ∧ mT a h h' ∧ n' = n) gN := by
  refine g_Met.of (M := mX3_readsS) (L := [some (.ref a)]) (by decide +kernel) (Nat.le_of_ble_eq_true rfl) rfl ?_
  refine r_aload0 dX3_readsS_0 ?_
  refine r_bipush (v := nI 101) dX3_readsS_1 (by decide) ?_
  refine r_callV (M' := mX3_reads) _ dX3_readsS_3 q3928 q3930 qs113 rfl (lw_all_tbl q3931) q138 (by exact pl_X3_reads) gc_X3 m.1 ((k_reads hb m q (by decide))) (by omega) (Nat.le_of_ble_eq_true rfl) (by omega) (by omega) rfl (Nat.le_of_ble_eq_true rfl) rfl (kI fun r3 h3 n3 e3 => ?_) kN
  obtain ⟨V3, rfl, m3, q3, t3, rfl⟩ := e3
  refine r_if_eqB (tgt := 50) dX3_readsS_6 (by decide) (fun c6 => ?_) (fun c6 => ?_)
  · rw [if_neg c6] at q3
    have hX : cmdS t (i, N) = (99, runT t [99, 97, 108, 101, 32, 1000] (i, N)) := if_neg c6
    have hr0 : runT t [99, 97, 108, 101, 32, 1000] (i, N) = runT t [99, 97, 108, 101, 32, 1000] (i, N) := rfl
    refine r_aload0 dX3_readsS_50 ?_
    refine r_bipush (v := nI 99) dX3_readsS_51 (by decide) ?_
    refine p_X3_292_X3 dX3_readsS_53 (by omega) m3.1 ?_
    refine m3.goI (i := fup (V3 0) 21 (nI 99)) (fun hB mB tB => ?_)
    have qB := q3.srt (x := nI 99)
    have TB := t3.tr tB
    refine r_aload0 dX3_readsS_56 ?_
    refine r_bipush (v := nI 99) dX3_readsS_57 (by decide) ?_
    refine r_callV (M' := mX3_reads) _ dX3_readsS_59 q3928 q3930 qs113 rfl (lw_all_tbl q3931) q138 (by exact pl_X3_reads) gc_X3 mB.1 ((k_reads hb mB qB (by decide))) (by omega) (Nat.le_of_ble_eq_true rfl) (by omega) (by omega) rfl (Nat.le_of_ble_eq_true rfl) rfl (kI fun r59 h59 n59 e59 => ?_) kN
    obtain ⟨V59, rfl, m59, q59, t59, rfl⟩ := e59
    have T59 := TB.tr t59
    refine r_if_eqB (tgt := 113) dX3_readsS_62 (by decide) (fun c62 => ?_) (fun c62 => ?_)
    · refine r_iconst (v := nI 0) dX3_readsS_113 (by decide) ?_
      exact r_ireturn dX3_readsS_114 rfl (by first | exact nB_nar | rfl) ((by rw [if_neg c62] at q59; exact ⟨pB.no (hX.trans (congrArg (Prod.mk 99) (hr0.trans (runT_cn (by decide) c62)))) m59 q59, T59, rfl⟩))
    · rw [if_pos c62] at q59
      have hr59 := hr0.trans (runT_cy (by decide) c62)
      refine r_aload0 dX3_readsS_65 ?_
      refine r_bipush (v := nI 97) dX3_readsS_66 (by decide) ?_
      refine r_callV (M' := mX3_reads) _ dX3_readsS_68 q3928 q3930 qs113 rfl (lw_all_tbl q3931) q138 (by exact pl_X3_reads) gc_X3 m59.1 ((k_reads hb m59 q59 (by decide))) (by omega) (Nat.le_of_ble_eq_true rfl) (by omega) (by omega) rfl (Nat.le_of_ble_eq_true rfl) rfl (kI fun r68 h68 n68 e68 => ?_) kN
      obtain ⟨V68, rfl, m68, q68, t68, rfl⟩ := e68
      have T68 := T59.tr t68
      refine r_if_eqB (tgt := 113) dX3_readsS_71 (by decide) (fun c71 => ?_) (fun c71 => ?_)
      · refine r_iconst (v := nI 0) dX3_readsS_113 (by decide) ?_
        exact r_ireturn dX3_readsS_114 rfl (by first | exact nB_nar | rfl) ((by rw [if_neg c71] at q68; exact ⟨pB.no (hX.trans (congrArg (Prod.mk 99) (hr59.trans (runT_cn (by decide) c71)))) m68 q68, T68, rfl⟩))
      · rw [if_pos c71] at q68
        have hr68 := hr59.trans (runT_cy (by decide) c71)
        refine r_aload0 dX3_readsS_74 ?_
        refine r_bipush (v := nI 108) dX3_readsS_75 (by decide) ?_
        refine r_callV (M' := mX3_reads) _ dX3_readsS_77 q3928 q3930 qs113 rfl (lw_all_tbl q3931) q138 (by exact pl_X3_reads) gc_X3 m68.1 ((k_reads hb m68 q68 (by decide))) (by omega) (Nat.le_of_ble_eq_true rfl) (by omega) (by omega) rfl (Nat.le_of_ble_eq_true rfl) rfl (kI fun r77 h77 n77 e77 => ?_) kN
        obtain ⟨V77, rfl, m77, q77, t77, rfl⟩ := e77
        have T77 := T68.tr t77
        refine r_if_eqB (tgt := 113) dX3_readsS_80 (by decide) (fun c80 => ?_) (fun c80 => ?_)
        · refine r_iconst (v := nI 0) dX3_readsS_113 (by decide) ?_
          exact r_ireturn dX3_readsS_114 rfl (by first | exact nB_nar | rfl) ((by rw [if_neg c80] at q77; exact ⟨pB.no (hX.trans (congrArg (Prod.mk 99) (hr68.trans (runT_cn (by decide) c80)))) m77 q77, T77, rfl⟩))
        · rw [if_pos c80] at q77
          have hr77 := hr68.trans (runT_cy (by decide) c80)
          refine r_aload0 dX3_readsS_83 ?_
          refine r_bipush (v := nI 101) dX3_readsS_84 (by decide) ?_
          refine r_callV (M' := mX3_reads) _ dX3_readsS_86 q3928 q3930 qs113 rfl (lw_all_tbl q3931) q138 (by exact pl_X3_reads) gc_X3 m77.1 ((k_reads hb m77 q77 (by decide))) (by omega) (Nat.le_of_ble_eq_true rfl) (by omega) (by omega) rfl (Nat.le_of_ble_eq_true rfl) rfl (kI fun r86 h86 n86 e86 => ?_) kN
          obtain ⟨V86, rfl, m86, q86, t86, rfl⟩ := e86
          have T86 := T77.tr t86
          refine r_if_eqB (tgt := 113) dX3_readsS_89 (by decide) (fun c89 => ?_) (fun c89 => ?_)
          · refine r_iconst (v := nI 0) dX3_readsS_113 (by decide) ?_
            exact r_ireturn dX3_readsS_114 rfl (by first | exact nB_nar | rfl) ((by rw [if_neg c89] at q86; exact ⟨pB.no (hX.trans (congrArg (Prod.mk 99) (hr77.trans (runT_cn (by decide) c89)))) m86 q86, T86, rfl⟩))
          · rw [if_pos c89] at q86
            have hr86 := hr77.trans (runT_cy (by decide) c89)
            refine r_aload0 dX3_readsS_92 ?_
            refine r_bipush (v := nI 32) dX3_readsS_93 (by decide) ?_
            refine r_callV (M' := mX3_reads) _ dX3_readsS_95 q3928 q3930 qs113 rfl (lw_all_tbl q3931) q138 (by exact pl_X3_reads) gc_X3 m86.1 ((k_reads hb m86 q86 (by decide))) (by omega) (Nat.le_of_ble_eq_true rfl) (by omega) (by omega) rfl (Nat.le_of_ble_eq_true rfl) rfl (kI fun r95 h95 n95 e95 => ?_) kN
            obtain ⟨V95, rfl, m95, q95, t95, rfl⟩ := e95
            have T95 := T86.tr t95
            refine r_if_eqB (tgt := 113) dX3_readsS_98 (by decide) (fun c98 => ?_) (fun c98 => ?_)
            · refine r_iconst (v := nI 0) dX3_readsS_113 (by decide) ?_
              exact r_ireturn dX3_readsS_114 rfl (by first | exact nB_nar | rfl) ((by rw [if_neg c98] at q95; exact ⟨pB.no (hX.trans (congrArg (Prod.mk 99) (hr86.trans (runT_cn (by decide) c98)))) m95 q95, T95, rfl⟩))
            · rw [if_pos c98] at q95
              have hr95 := hr86.trans (runT_cy (by decide) c98)
              refine r_aload0 dX3_readsS_101 ?_
              refine r_iconst (v := nI 0) dX3_readsS_102 (by decide) ?_
              refine r_callV (M' := mX3_readsDigit) _ dX3_readsS_103 q3936 q3938 qs115 rfl (lw_all_tbl q3939) q138 (by exact pl_X3_readsDigit) gc_X3 m95.1 ((k_readsDigit (k := 0) hb m95 q95 (by decide))) (by omega) (Nat.le_of_ble_eq_true rfl) (by omega) (by omega) rfl (Nat.le_of_ble_eq_true rfl) rfl (kI fun r103 h103 n103 e103 => ?_) kN
              obtain ⟨V103, rfl, m103, q103, t103, rfl⟩ := e103
              have T103 := T95.tr t103
              refine r_if_eqB (tgt := 113) dX3_readsS_106 (by decide) (fun c106 => ?_) (fun c106 => ?_)
              · refine r_iconst (v := nI 0) dX3_readsS_113 (by decide) ?_
                exact r_ireturn dX3_readsS_114 rfl (by first | exact nB_nar | rfl) ((by rw [if_neg c106, if_neg c106] at q103; exact ⟨pB.no (hX.trans (congrArg (Prod.mk 99) (hr95.trans (runT_dn (k := 0) (by decide) c106)))) m103 q103, T103, rfl⟩))
              · rw [if_pos c106, if_pos c106] at q103
                have hr103 := hr95.trans (runT_dy (k := 0) (by decide) c106)
                refine r_iconst (v := nI 1) dX3_readsS_109 (by decide) ?_
                refine r_goto (tgt := 114) dX3_readsS_110 (by decide) ?_
                exact r_ireturn dX3_readsS_114 rfl (by first | exact nB_nar | rfl) (⟨pB.yes (hX.trans (congrArg (Prod.mk 99) hr103)) rfl m103 q103, T103, rfl⟩)
  · rw [if_pos c6] at q3
    have hX : cmdS t (i, N) = (115, runT t [108, 108, 32, 1000] (i + 1, N)) := if_pos c6
    have hr0 : runT t [108, 108, 32, 1000] (i + 1, N) = runT t [108, 108, 32, 1000] (i + 1, N) := rfl
    refine r_aload0 dX3_readsS_9 ?_
    refine r_bipush (v := nI 108) dX3_readsS_10 (by decide) ?_
    refine r_callV (M' := mX3_reads) _ dX3_readsS_12 q3928 q3930 qs113 rfl (lw_all_tbl q3931) q138 (by exact pl_X3_reads) gc_X3 m3.1 ((k_reads hb m3 q3 (by decide))) (by omega) (Nat.le_of_ble_eq_true rfl) (by omega) (by omega) rfl (Nat.le_of_ble_eq_true rfl) rfl (kI fun r12 h12 n12 e12 => ?_) kN
    obtain ⟨V12, rfl, m12, q12, t12, rfl⟩ := e12
    have T12 := t3.tr t12
    refine r_if_eqB (tgt := 48) dX3_readsS_15 (by decide) (fun c15 => ?_) (fun c15 => ?_)
    · refine r_iconst (v := nI 0) dX3_readsS_48 (by decide) ?_
      exact r_ireturn dX3_readsS_49 rfl (by first | exact nB_nar | rfl) ((by rw [if_neg c15] at q12; exact ⟨pB.no (hX.trans (congrArg (Prod.mk 115) (hr0.trans (runT_cn (by decide) c15)))) m12 q12, T12, rfl⟩))
    · rw [if_pos c15] at q12
      have hr12 := hr0.trans (runT_cy (by decide) c15)
      refine r_aload0 dX3_readsS_18 ?_
      refine r_bipush (v := nI 108) dX3_readsS_19 (by decide) ?_
      refine r_callV (M' := mX3_reads) _ dX3_readsS_21 q3928 q3930 qs113 rfl (lw_all_tbl q3931) q138 (by exact pl_X3_reads) gc_X3 m12.1 ((k_reads hb m12 q12 (by decide))) (by omega) (Nat.le_of_ble_eq_true rfl) (by omega) (by omega) rfl (Nat.le_of_ble_eq_true rfl) rfl (kI fun r21 h21 n21 e21 => ?_) kN
      obtain ⟨V21, rfl, m21, q21, t21, rfl⟩ := e21
      have T21 := T12.tr t21
      refine r_if_eqB (tgt := 48) dX3_readsS_24 (by decide) (fun c24 => ?_) (fun c24 => ?_)
      · refine r_iconst (v := nI 0) dX3_readsS_48 (by decide) ?_
        exact r_ireturn dX3_readsS_49 rfl (by first | exact nB_nar | rfl) ((by rw [if_neg c24] at q21; exact ⟨pB.no (hX.trans (congrArg (Prod.mk 115) (hr12.trans (runT_cn (by decide) c24)))) m21 q21, T21, rfl⟩))
      · rw [if_pos c24] at q21
        have hr21 := hr12.trans (runT_cy (by decide) c24)
        refine r_aload0 dX3_readsS_27 ?_
        refine r_bipush (v := nI 32) dX3_readsS_28 (by decide) ?_
        refine r_callV (M' := mX3_reads) _ dX3_readsS_30 q3928 q3930 qs113 rfl (lw_all_tbl q3931) q138 (by exact pl_X3_reads) gc_X3 m21.1 ((k_reads hb m21 q21 (by decide))) (by omega) (Nat.le_of_ble_eq_true rfl) (by omega) (by omega) rfl (Nat.le_of_ble_eq_true rfl) rfl (kI fun r30 h30 n30 e30 => ?_) kN
        obtain ⟨V30, rfl, m30, q30, t30, rfl⟩ := e30
        have T30 := T21.tr t30
        refine r_if_eqB (tgt := 48) dX3_readsS_33 (by decide) (fun c33 => ?_) (fun c33 => ?_)
        · refine r_iconst (v := nI 0) dX3_readsS_48 (by decide) ?_
          exact r_ireturn dX3_readsS_49 rfl (by first | exact nB_nar | rfl) ((by rw [if_neg c33] at q30; exact ⟨pB.no (hX.trans (congrArg (Prod.mk 115) (hr21.trans (runT_cn (by decide) c33)))) m30 q30, T30, rfl⟩))
        · rw [if_pos c33] at q30
          have hr30 := hr21.trans (runT_cy (by decide) c33)
          refine r_aload0 dX3_readsS_36 ?_
          refine r_iconst (v := nI 0) dX3_readsS_37 (by decide) ?_
          refine r_callV (M' := mX3_readsDigit) _ dX3_readsS_38 q3936 q3938 qs115 rfl (lw_all_tbl q3939) q138 (by exact pl_X3_readsDigit) gc_X3 m30.1 ((k_readsDigit (k := 0) hb m30 q30 (by decide))) (by omega) (Nat.le_of_ble_eq_true rfl) (by omega) (by omega) rfl (Nat.le_of_ble_eq_true rfl) rfl (kI fun r38 h38 n38 e38 => ?_) kN
          obtain ⟨V38, rfl, m38, q38, t38, rfl⟩ := e38
          have T38 := T30.tr t38
          refine r_if_eqB (tgt := 48) dX3_readsS_41 (by decide) (fun c41 => ?_) (fun c41 => ?_)
          · refine r_iconst (v := nI 0) dX3_readsS_48 (by decide) ?_
            exact r_ireturn dX3_readsS_49 rfl (by first | exact nB_nar | rfl) ((by rw [if_neg c41, if_neg c41] at q38; exact ⟨pB.no (hX.trans (congrArg (Prod.mk 115) (hr30.trans (runT_dn (k := 0) (by decide) c41)))) m38 q38, T38, rfl⟩))
          · rw [if_pos c41, if_pos c41] at q38
            have hr38 := hr30.trans (runT_dy (k := 0) (by decide) c41)
            refine r_iconst (v := nI 1) dX3_readsS_44 (by decide) ?_
            refine r_goto (tgt := 49) dX3_readsS_45 (by decide) ?_
            exact r_ireturn dX3_readsS_49 rfl (by first | exact nB_nar | rfl) (⟨pB.yes (hX.trans (congrArg (Prod.mk 115) hr38)) hs m38 q38, T38, rfl⟩)
theorem k_readsCommand (hb : k_b K ≤ a) (m : mS a V R A h) (q : pS V0 t i N so V) : g_Met K mX3_readsCommand 6 0 0 [.ref a] h n (gI fun r h' n' => pB a V0 R A t (cmd t (i, N)) r h' ∧ mT a h h' ∧ n' = n) gN := by
  refine g_Met.of (M := mX3_readsCommand) (L := [some (.ref a)]) (by decide +kernel) (Nat.le_of_ble_eq_true rfl) rfl ?_
  refine r_aload0 dX3_readsCommand_0 ?_
  refine r_aload0 dX3_readsCommand_1 ?_
  refine r_callV (M' := mX3_nextChar) _ dX3_readsCommand_2 q3924 q3926 qs112 rfl (lw_all_tbl q3927) q138 (by exact pl_X3_nextChar) gc_X3 m.1 ((k_nextChar m q)) (by omega) (Nat.le_of_ble_eq_true rfl) (by omega) (by omega) rfl (Nat.le_of_ble_eq_true rfl) rfl (kI fun r2 h2 n2 e2 => ?_) kN
  obtain ⟨rfl, rfl, rfl⟩ := e2
  refine p_X3_292_X3 dX3_readsCommand_5 (by omega) m.1 ?_
  refine m.goI (i := fup (V 0) 21 (nxI t i)) (fun hA mA TA => ?_)
  have qA := q.srt (x := nxI t i)
  refine r_aload0 dX3_readsCommand_8 ?_
  refine r_bipush (v := nI 100) dX3_readsCommand_9 (by decide) ?_
  refine r_callV (M' := mX3_reads) _ dX3_readsCommand_11 q3928 q3930 qs113 rfl (lw_all_tbl q3931) q138 (by exact pl_X3_reads) gc_X3 mA.1 ((k_reads hb mA qA (by decide))) (by omega) (Nat.le_of_ble_eq_true rfl) (by omega) (by omega) rfl (Nat.le_of_ble_eq_true rfl) rfl (kI fun r11 h11 n11 e11 => ?_) kN
  obtain ⟨V11, rfl, m11, q11, t11, rfl⟩ := e11
  have T11 := TA.tr t11
  refine r_if_eqB (tgt := 93) dX3_readsCommand_14 (by decide) (fun c14 => ?_) (fun c14 => ?_)
  · rw [if_neg c14] at q11
    refine r_aload0 dX3_readsCommand_93 ?_
    refine r_bipush (v := nI 109) dX3_readsCommand_94 (by decide) ?_
    refine r_callV (M' := mX3_reads) _ dX3_readsCommand_96 q3928 q3930 qs113 rfl (lw_all_tbl q3931) q138 (by exact pl_X3_reads) gc_X3 m11.1 ((k_reads hb m11 q11 (by decide))) (by omega) (Nat.le_of_ble_eq_true rfl) (by omega) (by omega) rfl (Nat.le_of_ble_eq_true rfl) rfl (kI fun r96 h96 n96 e96 => ?_) kN
    obtain ⟨V96, rfl, m96, q96, t96, rfl⟩ := e96
    have T96 := T11.tr t96
    refine r_if_eqB (tgt := 133) dX3_readsCommand_99 (by decide) (fun c99 => ?_) (fun c99 => ?_)
    · rw [if_neg c99] at q96
      refine r_aload0 dX3_readsCommand_133 ?_
      refine r_bipush (v := nI 98) dX3_readsCommand_134 (by decide) ?_
      refine r_callV (M' := mX3_reads) _ dX3_readsCommand_136 q3928 q3930 qs113 rfl (lw_all_tbl q3931) q138 (by exact pl_X3_reads) gc_X3 m96.1 ((k_reads hb m96 q96 (by decide))) (by omega) (Nat.le_of_ble_eq_true rfl) (by omega) (by omega) rfl (Nat.le_of_ble_eq_true rfl) rfl (kI fun r136 h136 n136 e136 => ?_) kN
      obtain ⟨V136, rfl, m136, q136, t136, rfl⟩ := e136
      have T136 := T96.tr t136
      refine r_if_eqB (tgt := 147) dX3_readsCommand_139 (by decide) (fun c139 => ?_) (fun c139 => ?_)
      · rw [if_neg c139] at q136
        refine r_aload0 dX3_readsCommand_147 ?_
        refine r_bipush (v := nI 108) dX3_readsCommand_148 (by decide) ?_
        refine r_callV (M' := mX3_reads) _ dX3_readsCommand_150 q3928 q3930 qs113 rfl (lw_all_tbl q3931) q138 (by exact pl_X3_reads) gc_X3 m136.1 ((k_reads hb m136 q136 (by decide))) (by omega) (Nat.le_of_ble_eq_true rfl) (by omega) (by omega) rfl (Nat.le_of_ble_eq_true rfl) rfl (kI fun r150 h150 n150 e150 => ?_) kN
        obtain ⟨V150, rfl, m150, q150, t150, rfl⟩ := e150
        have T150 := T136.tr t150
        refine r_if_eqB (tgt := 223) dX3_readsCommand_153 (by decide) (fun c153 => ?_) (fun c153 => ?_)
        · rw [if_neg c153] at q150
          refine r_aload0 dX3_readsCommand_223 ?_
          refine r_bipush (v := nI 115) dX3_readsCommand_224 (by decide) ?_
          refine r_callV (M' := mX3_reads) _ dX3_readsCommand_226 q3928 q3930 qs113 rfl (lw_all_tbl q3931) q138 (by exact pl_X3_reads) gc_X3 m150.1 ((k_reads hb m150 q150 (by decide))) (by omega) (Nat.le_of_ble_eq_true rfl) (by omega) (by omega) rfl (Nat.le_of_ble_eq_true rfl) rfl (kI fun r226 h226 n226 e226 => ?_) kN
          obtain ⟨V226, rfl, m226, q226, t226, rfl⟩ := e226
          have T226 := T150.tr t226
          refine r_if_eqB (tgt := 237) dX3_readsCommand_229 (by decide) (fun c229 => ?_) (fun c229 => ?_)
          · rw [if_neg c229] at q226
            refine r_aload0 dX3_readsCommand_237 ?_
            refine r_bipush (v := nI 114) dX3_readsCommand_238 (by decide) ?_
            refine r_callV (M' := mX3_reads) _ dX3_readsCommand_240 q3928 q3930 qs113 rfl (lw_all_tbl q3931) q138 (by exact pl_X3_reads) gc_X3 m226.1 ((k_reads hb m226 q226 (by decide))) (by omega) (Nat.le_of_ble_eq_true rfl) (by omega) (by omega) rfl (Nat.le_of_ble_eq_true rfl) rfl (kI fun r240 h240 n240 e240 => ?_) kN
            obtain ⟨V240, rfl, m240, q240, t240, rfl⟩ := e240
            have T240 := T226.tr t240
            refine r_if_eqB (tgt := 251) dX3_readsCommand_243 (by decide) (fun c243 => ?_) (fun c243 => ?_)
            · rw [if_neg c243] at q240
              refine r_aload0 dX3_readsCommand_251 ?_
              refine r_bipush (v := nI 112) dX3_readsCommand_252 (by decide) ?_
              refine r_callV (M' := mX3_reads) _ dX3_readsCommand_254 q3928 q3930 qs113 rfl (lw_all_tbl q3931) q138 (by exact pl_X3_reads) gc_X3 m240.1 ((k_reads hb m240 q240 (by decide))) (by omega) (Nat.le_of_ble_eq_true rfl) (by omega) (by omega) rfl (Nat.le_of_ble_eq_true rfl) rfl (kI fun r254 h254 n254 e254 => ?_) kN
              obtain ⟨V254, rfl, m254, q254, t254, rfl⟩ := e254
              have T254 := T240.tr t254
              refine r_if_eqB (tgt := 300) dX3_readsCommand_257 (by decide) (fun c257 => ?_) (fun c257 => ?_)
              · rw [if_neg c257] at q254
                refine r_aload0 dX3_readsCommand_300 ?_
                refine r_bipush (v := nI 101) dX3_readsCommand_301 (by decide) ?_
                refine r_callV (M' := mX3_reads) _ dX3_readsCommand_303 q3928 q3930 qs113 rfl (lw_all_tbl q3931) q138 (by exact pl_X3_reads) gc_X3 m254.1 ((k_reads hb m254 q254 (by decide))) (by omega) (Nat.le_of_ble_eq_true rfl) (by omega) (by omega) rfl (Nat.le_of_ble_eq_true rfl) rfl (kI fun r303 h303 n303 e303 => ?_) kN
                obtain ⟨V303, rfl, m303, q303, t303, rfl⟩ := e303
                have T303 := T254.tr t303
                refine r_if_eqB (tgt := 368) dX3_readsCommand_306 (by decide) (fun c306 => ?_) (fun c306 => ?_)
                · rw [if_neg c306] at q303
                  have hX : cmd t (i, N) = (111, runT t [111, 118, 101, 110, 115, 32, 1000] (i, N)) := by unfold cmd; rw [if_neg c14, if_neg c99, if_neg c139, if_neg c153, if_neg c229, if_neg c243, if_neg c257, if_neg c306]
                  have hr0 : runT t [111, 118, 101, 110, 115, 32, 1000] (i, N) = runT t [111, 118, 101, 110, 115, 32, 1000] (i, N) := rfl
                  refine r_aload0 dX3_readsCommand_368 ?_
                  refine r_bipush (v := nI 111) dX3_readsCommand_369 (by decide) ?_
                  refine r_callV (M' := mX3_reads) _ dX3_readsCommand_371 q3928 q3930 qs113 rfl (lw_all_tbl q3931) q138 (by exact pl_X3_reads) gc_X3 m303.1 ((k_reads hb m303 q303 (by decide))) (by omega) (Nat.le_of_ble_eq_true rfl) (by omega) (by omega) rfl (Nat.le_of_ble_eq_true rfl) rfl (kI fun r371 h371 n371 e371 => ?_) kN
                  obtain ⟨V371, rfl, m371, q371, t371, rfl⟩ := e371
                  have T371 := T303.tr t371
                  refine r_if_eqB (tgt := 434) dX3_readsCommand_374 (by decide) (fun c374 => ?_) (fun c374 => ?_)
                  · refine r_iconst (v := nI 0) dX3_readsCommand_434 (by decide) ?_
                    exact r_ireturn dX3_readsCommand_435 rfl (by first | exact nB_nar | rfl) ((by rw [if_neg c374] at q371; exact ⟨pB.no (hX.trans (congrArg (Prod.mk 111) (hr0.trans (runT_cn (by decide) c374)))) m371 q371, T371, rfl⟩))
                  · rw [if_pos c374] at q371
                    have hr371 := hr0.trans (runT_cy (by decide) c374)
                    refine r_aload0 dX3_readsCommand_377 ?_
                    refine r_bipush (v := nI 118) dX3_readsCommand_378 (by decide) ?_
                    refine r_callV (M' := mX3_reads) _ dX3_readsCommand_380 q3928 q3930 qs113 rfl (lw_all_tbl q3931) q138 (by exact pl_X3_reads) gc_X3 m371.1 ((k_reads hb m371 q371 (by decide))) (by omega) (Nat.le_of_ble_eq_true rfl) (by omega) (by omega) rfl (Nat.le_of_ble_eq_true rfl) rfl (kI fun r380 h380 n380 e380 => ?_) kN
                    obtain ⟨V380, rfl, m380, q380, t380, rfl⟩ := e380
                    have T380 := T371.tr t380
                    refine r_if_eqB (tgt := 434) dX3_readsCommand_383 (by decide) (fun c383 => ?_) (fun c383 => ?_)
                    · refine r_iconst (v := nI 0) dX3_readsCommand_434 (by decide) ?_
                      exact r_ireturn dX3_readsCommand_435 rfl (by first | exact nB_nar | rfl) ((by rw [if_neg c383] at q380; exact ⟨pB.no (hX.trans (congrArg (Prod.mk 111) (hr371.trans (runT_cn (by decide) c383)))) m380 q380, T380, rfl⟩))
                    · rw [if_pos c383] at q380
                      have hr380 := hr371.trans (runT_cy (by decide) c383)
                      refine r_aload0 dX3_readsCommand_386 ?_
                      refine r_bipush (v := nI 101) dX3_readsCommand_387 (by decide) ?_
                      refine r_callV (M' := mX3_reads) _ dX3_readsCommand_389 q3928 q3930 qs113 rfl (lw_all_tbl q3931) q138 (by exact pl_X3_reads) gc_X3 m380.1 ((k_reads hb m380 q380 (by decide))) (by omega) (Nat.le_of_ble_eq_true rfl) (by omega) (by omega) rfl (Nat.le_of_ble_eq_true rfl) rfl (kI fun r389 h389 n389 e389 => ?_) kN
                      obtain ⟨V389, rfl, m389, q389, t389, rfl⟩ := e389
                      have T389 := T380.tr t389
                      refine r_if_eqB (tgt := 434) dX3_readsCommand_392 (by decide) (fun c392 => ?_) (fun c392 => ?_)
                      · refine r_iconst (v := nI 0) dX3_readsCommand_434 (by decide) ?_
                        exact r_ireturn dX3_readsCommand_435 rfl (by first | exact nB_nar | rfl) ((by rw [if_neg c392] at q389; exact ⟨pB.no (hX.trans (congrArg (Prod.mk 111) (hr380.trans (runT_cn (by decide) c392)))) m389 q389, T389, rfl⟩))
                      · rw [if_pos c392] at q389
                        have hr389 := hr380.trans (runT_cy (by decide) c392)
                        refine r_aload0 dX3_readsCommand_395 ?_
                        refine r_bipush (v := nI 110) dX3_readsCommand_396 (by decide) ?_
                        refine r_callV (M' := mX3_reads) _ dX3_readsCommand_398 q3928 q3930 qs113 rfl (lw_all_tbl q3931) q138 (by exact pl_X3_reads) gc_X3 m389.1 ((k_reads hb m389 q389 (by decide))) (by omega) (Nat.le_of_ble_eq_true rfl) (by omega) (by omega) rfl (Nat.le_of_ble_eq_true rfl) rfl (kI fun r398 h398 n398 e398 => ?_) kN
                        obtain ⟨V398, rfl, m398, q398, t398, rfl⟩ := e398
                        have T398 := T389.tr t398
                        refine r_if_eqB (tgt := 434) dX3_readsCommand_401 (by decide) (fun c401 => ?_) (fun c401 => ?_)
                        · refine r_iconst (v := nI 0) dX3_readsCommand_434 (by decide) ?_
                          exact r_ireturn dX3_readsCommand_435 rfl (by first | exact nB_nar | rfl) ((by rw [if_neg c401] at q398; exact ⟨pB.no (hX.trans (congrArg (Prod.mk 111) (hr389.trans (runT_cn (by decide) c401)))) m398 q398, T398, rfl⟩))
                        · rw [if_pos c401] at q398
                          have hr398 := hr389.trans (runT_cy (by decide) c401)
                          refine r_aload0 dX3_readsCommand_404 ?_
                          refine r_bipush (v := nI 115) dX3_readsCommand_405 (by decide) ?_
                          refine r_callV (M' := mX3_reads) _ dX3_readsCommand_407 q3928 q3930 qs113 rfl (lw_all_tbl q3931) q138 (by exact pl_X3_reads) gc_X3 m398.1 ((k_reads hb m398 q398 (by decide))) (by omega) (Nat.le_of_ble_eq_true rfl) (by omega) (by omega) rfl (Nat.le_of_ble_eq_true rfl) rfl (kI fun r407 h407 n407 e407 => ?_) kN
                          obtain ⟨V407, rfl, m407, q407, t407, rfl⟩ := e407
                          have T407 := T398.tr t407
                          refine r_if_eqB (tgt := 434) dX3_readsCommand_410 (by decide) (fun c410 => ?_) (fun c410 => ?_)
                          · refine r_iconst (v := nI 0) dX3_readsCommand_434 (by decide) ?_
                            exact r_ireturn dX3_readsCommand_435 rfl (by first | exact nB_nar | rfl) ((by rw [if_neg c410] at q407; exact ⟨pB.no (hX.trans (congrArg (Prod.mk 111) (hr398.trans (runT_cn (by decide) c410)))) m407 q407, T407, rfl⟩))
                          · rw [if_pos c410] at q407
                            have hr407 := hr398.trans (runT_cy (by decide) c410)
                            refine r_aload0 dX3_readsCommand_413 ?_
                            refine r_bipush (v := nI 32) dX3_readsCommand_414 (by decide) ?_
                            refine r_callV (M' := mX3_reads) _ dX3_readsCommand_416 q3928 q3930 qs113 rfl (lw_all_tbl q3931) q138 (by exact pl_X3_reads) gc_X3 m407.1 ((k_reads hb m407 q407 (by decide))) (by omega) (Nat.le_of_ble_eq_true rfl) (by omega) (by omega) rfl (Nat.le_of_ble_eq_true rfl) rfl (kI fun r416 h416 n416 e416 => ?_) kN
                            obtain ⟨V416, rfl, m416, q416, t416, rfl⟩ := e416
                            have T416 := T407.tr t416
                            refine r_if_eqB (tgt := 434) dX3_readsCommand_419 (by decide) (fun c419 => ?_) (fun c419 => ?_)
                            · refine r_iconst (v := nI 0) dX3_readsCommand_434 (by decide) ?_
                              exact r_ireturn dX3_readsCommand_435 rfl (by first | exact nB_nar | rfl) ((by rw [if_neg c419] at q416; exact ⟨pB.no (hX.trans (congrArg (Prod.mk 111) (hr407.trans (runT_cn (by decide) c419)))) m416 q416, T416, rfl⟩))
                            · rw [if_pos c419] at q416
                              have hr416 := hr407.trans (runT_cy (by decide) c419)
                              refine r_aload0 dX3_readsCommand_422 ?_
                              refine r_iconst (v := nI 0) dX3_readsCommand_423 (by decide) ?_
                              refine r_callV (M' := mX3_readsDigit) _ dX3_readsCommand_424 q3936 q3938 qs115 rfl (lw_all_tbl q3939) q138 (by exact pl_X3_readsDigit) gc_X3 m416.1 ((k_readsDigit (k := 0) hb m416 q416 (by decide))) (by omega) (Nat.le_of_ble_eq_true rfl) (by omega) (by omega) rfl (Nat.le_of_ble_eq_true rfl) rfl (kI fun r424 h424 n424 e424 => ?_) kN
                              obtain ⟨V424, rfl, m424, q424, t424, rfl⟩ := e424
                              have T424 := T416.tr t424
                              refine r_if_eqB (tgt := 434) dX3_readsCommand_427 (by decide) (fun c427 => ?_) (fun c427 => ?_)
                              · refine r_iconst (v := nI 0) dX3_readsCommand_434 (by decide) ?_
                                exact r_ireturn dX3_readsCommand_435 rfl (by first | exact nB_nar | rfl) ((by rw [if_neg c427, if_neg c427] at q424; exact ⟨pB.no (hX.trans (congrArg (Prod.mk 111) (hr416.trans (runT_dn (k := 0) (by decide) c427)))) m424 q424, T424, rfl⟩))
                              · rw [if_pos c427, if_pos c427] at q424
                                have hr424 := hr416.trans (runT_dy (k := 0) (by decide) c427)
                                refine r_iconst (v := nI 1) dX3_readsCommand_430 (by decide) ?_
                                refine r_goto (tgt := 435) dX3_readsCommand_431 (by decide) ?_
                                exact r_ireturn dX3_readsCommand_435 rfl (by first | exact nB_nar | rfl) (⟨pB.yes (hX.trans (congrArg (Prod.mk 111) hr424)) ((nx_c q (by decide)).mpr c374) m424 q424, T424, rfl⟩)
                · rw [if_pos c306] at q303
                  have hX : cmd t (i, N) = (101, runT t [109, 112, 116, 121, 32, 1000] (i + 1, N)) := by unfold cmd; rw [if_neg c14, if_neg c99, if_neg c139, if_neg c153, if_neg c229, if_neg c243, if_neg c257, if_pos c306]
                  have hr0 : runT t [109, 112, 116, 121, 32, 1000] (i + 1, N) = runT t [109, 112, 116, 121, 32, 1000] (i + 1, N) := rfl
                  refine r_aload0 dX3_readsCommand_309 ?_
                  refine r_bipush (v := nI 109) dX3_readsCommand_310 (by decide) ?_
                  refine r_callV (M' := mX3_reads) _ dX3_readsCommand_312 q3928 q3930 qs113 rfl (lw_all_tbl q3931) q138 (by exact pl_X3_reads) gc_X3 m303.1 ((k_reads hb m303 q303 (by decide))) (by omega) (Nat.le_of_ble_eq_true rfl) (by omega) (by omega) rfl (Nat.le_of_ble_eq_true rfl) rfl (kI fun r312 h312 n312 e312 => ?_) kN
                  obtain ⟨V312, rfl, m312, q312, t312, rfl⟩ := e312
                  have T312 := T303.tr t312
                  refine r_if_eqB (tgt := 366) dX3_readsCommand_315 (by decide) (fun c315 => ?_) (fun c315 => ?_)
                  · refine r_iconst (v := nI 0) dX3_readsCommand_366 (by decide) ?_
                    exact r_ireturn dX3_readsCommand_367 rfl (by first | exact nB_nar | rfl) ((by rw [if_neg c315] at q312; exact ⟨pB.no (hX.trans (congrArg (Prod.mk 101) (hr0.trans (runT_cn (by decide) c315)))) m312 q312, T312, rfl⟩))
                  · rw [if_pos c315] at q312
                    have hr312 := hr0.trans (runT_cy (by decide) c315)
                    refine r_aload0 dX3_readsCommand_318 ?_
                    refine r_bipush (v := nI 112) dX3_readsCommand_319 (by decide) ?_
                    refine r_callV (M' := mX3_reads) _ dX3_readsCommand_321 q3928 q3930 qs113 rfl (lw_all_tbl q3931) q138 (by exact pl_X3_reads) gc_X3 m312.1 ((k_reads hb m312 q312 (by decide))) (by omega) (Nat.le_of_ble_eq_true rfl) (by omega) (by omega) rfl (Nat.le_of_ble_eq_true rfl) rfl (kI fun r321 h321 n321 e321 => ?_) kN
                    obtain ⟨V321, rfl, m321, q321, t321, rfl⟩ := e321
                    have T321 := T312.tr t321
                    refine r_if_eqB (tgt := 366) dX3_readsCommand_324 (by decide) (fun c324 => ?_) (fun c324 => ?_)
                    · refine r_iconst (v := nI 0) dX3_readsCommand_366 (by decide) ?_
                      exact r_ireturn dX3_readsCommand_367 rfl (by first | exact nB_nar | rfl) ((by rw [if_neg c324] at q321; exact ⟨pB.no (hX.trans (congrArg (Prod.mk 101) (hr312.trans (runT_cn (by decide) c324)))) m321 q321, T321, rfl⟩))
                    · rw [if_pos c324] at q321
                      have hr321 := hr312.trans (runT_cy (by decide) c324)
                      refine r_aload0 dX3_readsCommand_327 ?_
                      refine r_bipush (v := nI 116) dX3_readsCommand_328 (by decide) ?_
                      refine r_callV (M' := mX3_reads) _ dX3_readsCommand_330 q3928 q3930 qs113 rfl (lw_all_tbl q3931) q138 (by exact pl_X3_reads) gc_X3 m321.1 ((k_reads hb m321 q321 (by decide))) (by omega) (Nat.le_of_ble_eq_true rfl) (by omega) (by omega) rfl (Nat.le_of_ble_eq_true rfl) rfl (kI fun r330 h330 n330 e330 => ?_) kN
                      obtain ⟨V330, rfl, m330, q330, t330, rfl⟩ := e330
                      have T330 := T321.tr t330
                      refine r_if_eqB (tgt := 366) dX3_readsCommand_333 (by decide) (fun c333 => ?_) (fun c333 => ?_)
                      · refine r_iconst (v := nI 0) dX3_readsCommand_366 (by decide) ?_
                        exact r_ireturn dX3_readsCommand_367 rfl (by first | exact nB_nar | rfl) ((by rw [if_neg c333] at q330; exact ⟨pB.no (hX.trans (congrArg (Prod.mk 101) (hr321.trans (runT_cn (by decide) c333)))) m330 q330, T330, rfl⟩))
                      · rw [if_pos c333] at q330
                        have hr330 := hr321.trans (runT_cy (by decide) c333)
                        refine r_aload0 dX3_readsCommand_336 ?_
                        refine r_bipush (v := nI 121) dX3_readsCommand_337 (by decide) ?_
                        refine r_callV (M' := mX3_reads) _ dX3_readsCommand_339 q3928 q3930 qs113 rfl (lw_all_tbl q3931) q138 (by exact pl_X3_reads) gc_X3 m330.1 ((k_reads hb m330 q330 (by decide))) (by omega) (Nat.le_of_ble_eq_true rfl) (by omega) (by omega) rfl (Nat.le_of_ble_eq_true rfl) rfl (kI fun r339 h339 n339 e339 => ?_) kN
                        obtain ⟨V339, rfl, m339, q339, t339, rfl⟩ := e339
                        have T339 := T330.tr t339
                        refine r_if_eqB (tgt := 366) dX3_readsCommand_342 (by decide) (fun c342 => ?_) (fun c342 => ?_)
                        · refine r_iconst (v := nI 0) dX3_readsCommand_366 (by decide) ?_
                          exact r_ireturn dX3_readsCommand_367 rfl (by first | exact nB_nar | rfl) ((by rw [if_neg c342] at q339; exact ⟨pB.no (hX.trans (congrArg (Prod.mk 101) (hr330.trans (runT_cn (by decide) c342)))) m339 q339, T339, rfl⟩))
                        · rw [if_pos c342] at q339
                          have hr339 := hr330.trans (runT_cy (by decide) c342)
                          refine r_aload0 dX3_readsCommand_345 ?_
                          refine r_bipush (v := nI 32) dX3_readsCommand_346 (by decide) ?_
                          refine r_callV (M' := mX3_reads) _ dX3_readsCommand_348 q3928 q3930 qs113 rfl (lw_all_tbl q3931) q138 (by exact pl_X3_reads) gc_X3 m339.1 ((k_reads hb m339 q339 (by decide))) (by omega) (Nat.le_of_ble_eq_true rfl) (by omega) (by omega) rfl (Nat.le_of_ble_eq_true rfl) rfl (kI fun r348 h348 n348 e348 => ?_) kN
                          obtain ⟨V348, rfl, m348, q348, t348, rfl⟩ := e348
                          have T348 := T339.tr t348
                          refine r_if_eqB (tgt := 366) dX3_readsCommand_351 (by decide) (fun c351 => ?_) (fun c351 => ?_)
                          · refine r_iconst (v := nI 0) dX3_readsCommand_366 (by decide) ?_
                            exact r_ireturn dX3_readsCommand_367 rfl (by first | exact nB_nar | rfl) ((by rw [if_neg c351] at q348; exact ⟨pB.no (hX.trans (congrArg (Prod.mk 101) (hr339.trans (runT_cn (by decide) c351)))) m348 q348, T348, rfl⟩))
                          · rw [if_pos c351] at q348
                            have hr348 := hr339.trans (runT_cy (by decide) c351)
                            refine r_aload0 dX3_readsCommand_354 ?_
                            refine r_iconst (v := nI 0) dX3_readsCommand_355 (by decide) ?_
                            refine r_callV (M' := mX3_readsDigit) _ dX3_readsCommand_356 q3936 q3938 qs115 rfl (lw_all_tbl q3939) q138 (by exact pl_X3_readsDigit) gc_X3 m348.1 ((k_readsDigit (k := 0) hb m348 q348 (by decide))) (by omega) (Nat.le_of_ble_eq_true rfl) (by omega) (by omega) rfl (Nat.le_of_ble_eq_true rfl) rfl (kI fun r356 h356 n356 e356 => ?_) kN
                            obtain ⟨V356, rfl, m356, q356, t356, rfl⟩ := e356
                            have T356 := T348.tr t356
                            refine r_if_eqB (tgt := 366) dX3_readsCommand_359 (by decide) (fun c359 => ?_) (fun c359 => ?_)
                            · refine r_iconst (v := nI 0) dX3_readsCommand_366 (by decide) ?_
                              exact r_ireturn dX3_readsCommand_367 rfl (by first | exact nB_nar | rfl) ((by rw [if_neg c359, if_neg c359] at q356; exact ⟨pB.no (hX.trans (congrArg (Prod.mk 101) (hr348.trans (runT_dn (k := 0) (by decide) c359)))) m356 q356, T356, rfl⟩))
                            · rw [if_pos c359, if_pos c359] at q356
                              have hr356 := hr348.trans (runT_dy (k := 0) (by decide) c359)
                              refine r_iconst (v := nI 1) dX3_readsCommand_362 (by decide) ?_
                              refine r_goto (tgt := 367) dX3_readsCommand_363 (by decide) ?_
                              exact r_ireturn dX3_readsCommand_367 rfl (by first | exact nB_nar | rfl) (⟨pB.yes (hX.trans (congrArg (Prod.mk 101) hr356)) ((nx_c q (by decide)).mpr c306) m356 q356, T356, rfl⟩)
              · rw [if_pos c257] at q254
                have hX : cmd t (i, N) = (112, runT t [111, 117, 114, 32, 1000, 1001] (i + 1, N)) := by unfold cmd; rw [if_neg c14, if_neg c99, if_neg c139, if_neg c153, if_neg c229, if_neg c243, if_pos c257]
                have hr0 : runT t [111, 117, 114, 32, 1000, 1001] (i + 1, N) = runT t [111, 117, 114, 32, 1000, 1001] (i + 1, N) := rfl
                refine r_aload0 dX3_readsCommand_260 ?_
                refine r_bipush (v := nI 111) dX3_readsCommand_261 (by decide) ?_
                refine r_callV (M' := mX3_reads) _ dX3_readsCommand_263 q3928 q3930 qs113 rfl (lw_all_tbl q3931) q138 (by exact pl_X3_reads) gc_X3 m254.1 ((k_reads hb m254 q254 (by decide))) (by omega) (Nat.le_of_ble_eq_true rfl) (by omega) (by omega) rfl (Nat.le_of_ble_eq_true rfl) rfl (kI fun r263 h263 n263 e263 => ?_) kN
                obtain ⟨V263, rfl, m263, q263, t263, rfl⟩ := e263
                have T263 := T254.tr t263
                refine r_if_eqB (tgt := 298) dX3_readsCommand_266 (by decide) (fun c266 => ?_) (fun c266 => ?_)
                · refine r_iconst (v := nI 0) dX3_readsCommand_298 (by decide) ?_
                  exact r_ireturn dX3_readsCommand_299 rfl (by first | exact nB_nar | rfl) ((by rw [if_neg c266] at q263; exact ⟨pB.no (hX.trans (congrArg (Prod.mk 112) (hr0.trans (runT_cn (by decide) c266)))) m263 q263, T263, rfl⟩))
                · rw [if_pos c266] at q263
                  have hr263 := hr0.trans (runT_cy (by decide) c266)
                  refine r_aload0 dX3_readsCommand_269 ?_
                  refine r_bipush (v := nI 117) dX3_readsCommand_270 (by decide) ?_
                  refine r_callV (M' := mX3_reads) _ dX3_readsCommand_272 q3928 q3930 qs113 rfl (lw_all_tbl q3931) q138 (by exact pl_X3_reads) gc_X3 m263.1 ((k_reads hb m263 q263 (by decide))) (by omega) (Nat.le_of_ble_eq_true rfl) (by omega) (by omega) rfl (Nat.le_of_ble_eq_true rfl) rfl (kI fun r272 h272 n272 e272 => ?_) kN
                  obtain ⟨V272, rfl, m272, q272, t272, rfl⟩ := e272
                  have T272 := T263.tr t272
                  refine r_if_eqB (tgt := 298) dX3_readsCommand_275 (by decide) (fun c275 => ?_) (fun c275 => ?_)
                  · refine r_iconst (v := nI 0) dX3_readsCommand_298 (by decide) ?_
                    exact r_ireturn dX3_readsCommand_299 rfl (by first | exact nB_nar | rfl) ((by rw [if_neg c275] at q272; exact ⟨pB.no (hX.trans (congrArg (Prod.mk 112) (hr263.trans (runT_cn (by decide) c275)))) m272 q272, T272, rfl⟩))
                  · rw [if_pos c275] at q272
                    have hr272 := hr263.trans (runT_cy (by decide) c275)
                    refine r_aload0 dX3_readsCommand_278 ?_
                    refine r_bipush (v := nI 114) dX3_readsCommand_279 (by decide) ?_
                    refine r_callV (M' := mX3_reads) _ dX3_readsCommand_281 q3928 q3930 qs113 rfl (lw_all_tbl q3931) q138 (by exact pl_X3_reads) gc_X3 m272.1 ((k_reads hb m272 q272 (by decide))) (by omega) (Nat.le_of_ble_eq_true rfl) (by omega) (by omega) rfl (Nat.le_of_ble_eq_true rfl) rfl (kI fun r281 h281 n281 e281 => ?_) kN
                    obtain ⟨V281, rfl, m281, q281, t281, rfl⟩ := e281
                    have T281 := T272.tr t281
                    refine r_if_eqB (tgt := 298) dX3_readsCommand_284 (by decide) (fun c284 => ?_) (fun c284 => ?_)
                    · refine r_iconst (v := nI 0) dX3_readsCommand_298 (by decide) ?_
                      exact r_ireturn dX3_readsCommand_299 rfl (by first | exact nB_nar | rfl) ((by rw [if_neg c284] at q281; exact ⟨pB.no (hX.trans (congrArg (Prod.mk 112) (hr272.trans (runT_cn (by decide) c284)))) m281 q281, T281, rfl⟩))
                    · rw [if_pos c284] at q281
                      have hr281 := hr272.trans (runT_cy (by decide) c284)
                      refine r_aload0 dX3_readsCommand_287 ?_
                      refine r_callV (M' := mX3_readsTwo) _ dX3_readsCommand_288 q3940 q3942 qs116 rfl (lw_all_tbl q3943) q138 (by exact pl_X3_readsTwo) gc_X3 m281.1 ((k_readsTwo hb m281 q281)) (by omega) (Nat.le_of_ble_eq_true rfl) (by omega) (by omega) rfl (Nat.le_of_ble_eq_true rfl) rfl (kI fun r288 h288 n288 e288 => ?_) kN
                      obtain ⟨⟨V288, rfl, m288, q288⟩, t288, rfl⟩ := e288
                      refine r_if_eqB (tgt := 298) dX3_readsCommand_291 (by decide) (fun c291 => ?_) (fun c291 => ?_)
                      · refine r_iconst (v := nI 0) dX3_readsCommand_298 (by decide) ?_
                        exact r_ireturn dX3_readsCommand_299 rfl (by first | exact nB_nar | rfl) (⟨pB.of (hX.trans (congrArg (Prod.mk 112) hr281)) ((nx_c q (by decide)).mpr c257) ⟨V288, nB_f c291, m288, q288⟩, T281.tr t288, rfl⟩)
                      · refine r_iconst (v := nI 1) dX3_readsCommand_294 (by decide) ?_
                        refine r_goto (tgt := 299) dX3_readsCommand_295 (by decide) ?_
                        exact r_ireturn dX3_readsCommand_299 rfl (by first | exact nB_nar | rfl) (⟨pB.of (hX.trans (congrArg (Prod.mk 112) hr281)) ((nx_c q (by decide)).mpr c257) ⟨V288, nB_t c291, m288, q288⟩, T281.tr t288, rfl⟩)
            · rw [if_pos c243] at q240
              have hX : cmd t (i, N) = (114, runT t [111, 117, 110, 100, 32, 3000] (i + 1, N)) := by unfold cmd; rw [if_neg c14, if_neg c99, if_neg c139, if_neg c153, if_neg c229, if_pos c243]
              refine r_aload0 dX3_readsCommand_246 ?_
              refine r_callV (M' := mX3_readsRule) _ dX3_readsCommand_247 q3952 q3954 qs119 rfl (lw_all_tbl q3955) q138 (by exact pl_X3_readsRule) gc_X3 m240.1 ((k_readsRule hb m240 q240)) (by omega) (Nat.le_of_ble_eq_true rfl) (by omega) (by omega) rfl (Nat.le_of_ble_eq_true rfl) rfl (kI fun r247 h247 n247 e247 => ?_) kN
              obtain ⟨p247, t247, rfl⟩ := e247
              exact r_ireturn dX3_readsCommand_250 rfl (by obtain ⟨_, z, -⟩ := p247; rw [z]; exact nB_nar) (⟨pB.of hX ((nx_c q (by decide)).mpr c243) p247, T240.tr t247, rfl⟩)
          · rw [if_pos c229] at q226
            have hX : cmd t (i, N) = cmdS t (i + 1, N) := by unfold cmd; rw [if_neg c14, if_neg c99, if_neg c139, if_neg c153, if_pos c229]
            refine r_aload0 dX3_readsCommand_232 ?_
            refine r_callV (M' := mX3_readsS) _ dX3_readsCommand_233 q3948 q3950 qs118 rfl (lw_all_tbl q3951) q138 (by exact pl_X3_readsS) gc_X3 m226.1 ((k_readsS hb m226 q226 ((nx_c q (by decide)).mpr c229))) (by omega) (Nat.le_of_ble_eq_true rfl) (by omega) (by omega) rfl (Nat.le_of_ble_eq_true rfl) rfl (kI fun r233 h233 n233 e233 => ?_) kN
            obtain ⟨p233, t233, rfl⟩ := e233
            exact r_ireturn dX3_readsCommand_236 rfl (by obtain ⟨_, _, z, -⟩ := p233; rw [z]; exact nB_nar) (⟨by rw [hX]; exact p233, T226.tr t233, rfl⟩)
        · rw [if_pos c153] at q150
          have hX : cmd t (i, N) = (108, runT t [111, 97, 102, 32, 2000, 32, 2001] (i + 1, N)) := by unfold cmd; rw [if_neg c14, if_neg c99, if_neg c139, if_pos c153]
          have hr0 : runT t [111, 97, 102, 32, 2000, 32, 2001] (i + 1, N) = runT t [111, 97, 102, 32, 2000, 32, 2001] (i + 1, N) := rfl
          refine r_aload0 dX3_readsCommand_156 ?_
          refine r_bipush (v := nI 111) dX3_readsCommand_157 (by decide) ?_
          refine r_callV (M' := mX3_reads) _ dX3_readsCommand_159 q3928 q3930 qs113 rfl (lw_all_tbl q3931) q138 (by exact pl_X3_reads) gc_X3 m150.1 ((k_reads hb m150 q150 (by decide))) (by omega) (Nat.le_of_ble_eq_true rfl) (by omega) (by omega) rfl (Nat.le_of_ble_eq_true rfl) rfl (kI fun r159 h159 n159 e159 => ?_) kN
          obtain ⟨V159, rfl, m159, q159, t159, rfl⟩ := e159
          have T159 := T150.tr t159
          refine r_if_eqB (tgt := 221) dX3_readsCommand_162 (by decide) (fun c162 => ?_) (fun c162 => ?_)
          · refine r_iconst (v := nI 0) dX3_readsCommand_221 (by decide) ?_
            exact r_ireturn dX3_readsCommand_222 rfl (by first | exact nB_nar | rfl) ((by rw [if_neg c162] at q159; exact ⟨pB.no (hX.trans (congrArg (Prod.mk 108) (hr0.trans (runT_cn (by decide) c162)))) m159 q159, T159, rfl⟩))
          · rw [if_pos c162] at q159
            have hr159 := hr0.trans (runT_cy (by decide) c162)
            refine r_aload0 dX3_readsCommand_165 ?_
            refine r_bipush (v := nI 97) dX3_readsCommand_166 (by decide) ?_
            refine r_callV (M' := mX3_reads) _ dX3_readsCommand_168 q3928 q3930 qs113 rfl (lw_all_tbl q3931) q138 (by exact pl_X3_reads) gc_X3 m159.1 ((k_reads hb m159 q159 (by decide))) (by omega) (Nat.le_of_ble_eq_true rfl) (by omega) (by omega) rfl (Nat.le_of_ble_eq_true rfl) rfl (kI fun r168 h168 n168 e168 => ?_) kN
            obtain ⟨V168, rfl, m168, q168, t168, rfl⟩ := e168
            have T168 := T159.tr t168
            refine r_if_eqB (tgt := 221) dX3_readsCommand_171 (by decide) (fun c171 => ?_) (fun c171 => ?_)
            · refine r_iconst (v := nI 0) dX3_readsCommand_221 (by decide) ?_
              exact r_ireturn dX3_readsCommand_222 rfl (by first | exact nB_nar | rfl) ((by rw [if_neg c171] at q168; exact ⟨pB.no (hX.trans (congrArg (Prod.mk 108) (hr159.trans (runT_cn (by decide) c171)))) m168 q168, T168, rfl⟩))
            · rw [if_pos c171] at q168
              have hr168 := hr159.trans (runT_cy (by decide) c171)
              refine r_aload0 dX3_readsCommand_174 ?_
              refine r_bipush (v := nI 102) dX3_readsCommand_175 (by decide) ?_
              refine r_callV (M' := mX3_reads) _ dX3_readsCommand_177 q3928 q3930 qs113 rfl (lw_all_tbl q3931) q138 (by exact pl_X3_reads) gc_X3 m168.1 ((k_reads hb m168 q168 (by decide))) (by omega) (Nat.le_of_ble_eq_true rfl) (by omega) (by omega) rfl (Nat.le_of_ble_eq_true rfl) rfl (kI fun r177 h177 n177 e177 => ?_) kN
              obtain ⟨V177, rfl, m177, q177, t177, rfl⟩ := e177
              have T177 := T168.tr t177
              refine r_if_eqB (tgt := 221) dX3_readsCommand_180 (by decide) (fun c180 => ?_) (fun c180 => ?_)
              · refine r_iconst (v := nI 0) dX3_readsCommand_221 (by decide) ?_
                exact r_ireturn dX3_readsCommand_222 rfl (by first | exact nB_nar | rfl) ((by rw [if_neg c180] at q177; exact ⟨pB.no (hX.trans (congrArg (Prod.mk 108) (hr168.trans (runT_cn (by decide) c180)))) m177 q177, T177, rfl⟩))
              · rw [if_pos c180] at q177
                have hr177 := hr168.trans (runT_cy (by decide) c180)
                refine r_aload0 dX3_readsCommand_183 ?_
                refine r_bipush (v := nI 32) dX3_readsCommand_184 (by decide) ?_
                refine r_callV (M' := mX3_reads) _ dX3_readsCommand_186 q3928 q3930 qs113 rfl (lw_all_tbl q3931) q138 (by exact pl_X3_reads) gc_X3 m177.1 ((k_reads hb m177 q177 (by decide))) (by omega) (Nat.le_of_ble_eq_true rfl) (by omega) (by omega) rfl (Nat.le_of_ble_eq_true rfl) rfl (kI fun r186 h186 n186 e186 => ?_) kN
                obtain ⟨V186, rfl, m186, q186, t186, rfl⟩ := e186
                have T186 := T177.tr t186
                refine r_if_eqB (tgt := 221) dX3_readsCommand_189 (by decide) (fun c189 => ?_) (fun c189 => ?_)
                · refine r_iconst (v := nI 0) dX3_readsCommand_221 (by decide) ?_
                  exact r_ireturn dX3_readsCommand_222 rfl (by first | exact nB_nar | rfl) ((by rw [if_neg c189] at q186; exact ⟨pB.no (hX.trans (congrArg (Prod.mk 108) (hr177.trans (runT_cn (by decide) c189)))) m186 q186, T186, rfl⟩))
                · rw [if_pos c189] at q186
                  have hr186 := hr177.trans (runT_cy (by decide) c189)
                  refine r_aload0 dX3_readsCommand_192 ?_
                  refine r_iconst (v := nI 0) dX3_readsCommand_193 (by decide) ?_
                  refine r_callV (M' := mX3_readsNumber) _ dX3_readsCommand_194 q3932 q3934 qs114 rfl (lw_all_tbl q3935) q138 (by exact pl_X3_readsNumber) gc_X3 m186.1 ((k_readsNumber (k := 0) hb m186 q186 (by decide))) (by omega) (Nat.le_of_ble_eq_true rfl) (by omega) (by omega) rfl (Nat.le_of_ble_eq_true rfl) rfl (kI fun r194 h194 n194 e194 => ?_) kN
                  obtain ⟨V194, rfl, m194, q194, t194, rfl⟩ := e194
                  have T194 := T186.tr t194
                  refine r_if_eqB (tgt := 221) dX3_readsCommand_197 (by decide) (fun c197 => ?_) (fun c197 => ?_)
                  · refine r_iconst (v := nI 0) dX3_readsCommand_221 (by decide) ?_
                    exact r_ireturn dX3_readsCommand_222 rfl (by first | exact nB_nar | rfl) ((by rw [if_neg c197, if_neg c197] at q194; exact ⟨pB.no (hX.trans (congrArg (Prod.mk 108) (hr186.trans (runT_nn (k := 0) (by decide) c197)))) m194 q194, T194, rfl⟩))
                  · rw [if_pos c197, if_pos c197] at q194
                    have hr194 := hr186.trans (runT_ny (k := 0) (by decide) c197)
                    refine r_aload0 dX3_readsCommand_200 ?_
                    refine r_bipush (v := nI 32) dX3_readsCommand_201 (by decide) ?_
                    refine r_callV (M' := mX3_reads) _ dX3_readsCommand_203 q3928 q3930 qs113 rfl (lw_all_tbl q3931) q138 (by exact pl_X3_reads) gc_X3 m194.1 ((k_reads hb m194 q194 (by decide))) (by omega) (Nat.le_of_ble_eq_true rfl) (by omega) (by omega) rfl (Nat.le_of_ble_eq_true rfl) rfl (kI fun r203 h203 n203 e203 => ?_) kN
                    obtain ⟨V203, rfl, m203, q203, t203, rfl⟩ := e203
                    have T203 := T194.tr t203
                    refine r_if_eqB (tgt := 221) dX3_readsCommand_206 (by decide) (fun c206 => ?_) (fun c206 => ?_)
                    · refine r_iconst (v := nI 0) dX3_readsCommand_221 (by decide) ?_
                      exact r_ireturn dX3_readsCommand_222 rfl (by first | exact nB_nar | rfl) ((by rw [if_neg c206] at q203; exact ⟨pB.no (hX.trans (congrArg (Prod.mk 108) (hr194.trans (runT_cn (by decide) c206)))) m203 q203, T203, rfl⟩))
                    · rw [if_pos c206] at q203
                      have hr203 := hr194.trans (runT_cy (by decide) c206)
                      refine r_aload0 dX3_readsCommand_209 ?_
                      refine r_iconst (v := nI 1) dX3_readsCommand_210 (by decide) ?_
                      refine r_callV (M' := mX3_readsNumber) _ dX3_readsCommand_211 q3932 q3934 qs114 rfl (lw_all_tbl q3935) q138 (by exact pl_X3_readsNumber) gc_X3 m203.1 ((k_readsNumber (k := 1) hb m203 q203 (by decide))) (by omega) (Nat.le_of_ble_eq_true rfl) (by omega) (by omega) rfl (Nat.le_of_ble_eq_true rfl) rfl (kI fun r211 h211 n211 e211 => ?_) kN
                      obtain ⟨V211, rfl, m211, q211, t211, rfl⟩ := e211
                      have T211 := T203.tr t211
                      refine r_if_eqB (tgt := 221) dX3_readsCommand_214 (by decide) (fun c214 => ?_) (fun c214 => ?_)
                      · refine r_iconst (v := nI 0) dX3_readsCommand_221 (by decide) ?_
                        exact r_ireturn dX3_readsCommand_222 rfl (by first | exact nB_nar | rfl) ((by rw [if_neg c214, if_neg c214] at q211; exact ⟨pB.no (hX.trans (congrArg (Prod.mk 108) (hr203.trans (runT_nn (k := 1) (by decide) c214)))) m211 q211, T211, rfl⟩))
                      · rw [if_pos c214, if_pos c214] at q211
                        have hr211 := hr203.trans (runT_ny (k := 1) (by decide) c214)
                        refine r_iconst (v := nI 1) dX3_readsCommand_217 (by decide) ?_
                        refine r_goto (tgt := 222) dX3_readsCommand_218 (by decide) ?_
                        exact r_ireturn dX3_readsCommand_222 rfl (by first | exact nB_nar | rfl) (⟨pB.yes (hX.trans (congrArg (Prod.mk 108) hr211)) ((nx_c q (by decide)).mpr c153) m211 q211, T211, rfl⟩)
      · rw [if_pos c139] at q136
        have hX : cmd t (i, N) = cmdB t (i + 1, N) := by unfold cmd; rw [if_neg c14, if_neg c99, if_pos c139]
        refine r_aload0 dX3_readsCommand_142 ?_
        refine r_callV (M' := mX3_readsB) _ dX3_readsCommand_143 q3944 q3946 qs117 rfl (lw_all_tbl q3947) q138 (by exact pl_X3_readsB) gc_X3 m136.1 ((k_readsB hb m136 q136 ((nx_c q (by decide)).mpr c139))) (by omega) (Nat.le_of_ble_eq_true rfl) (by omega) (by omega) rfl (Nat.le_of_ble_eq_true rfl) rfl (kI fun r143 h143 n143 e143 => ?_) kN
        obtain ⟨p143, t143, rfl⟩ := e143
        exact r_ireturn dX3_readsCommand_146 rfl (by obtain ⟨_, _, z, -⟩ := p143; rw [z]; exact nB_nar) (⟨by rw [hX]; exact p143, T136.tr t143, rfl⟩)
    · rw [if_pos c99] at q96
      have hX : cmd t (i, N) = (109, runT t [105, 120, 32, 1000, 1001] (i + 1, N)) := by unfold cmd; rw [if_neg c14, if_pos c99]
      have hr0 : runT t [105, 120, 32, 1000, 1001] (i + 1, N) = runT t [105, 120, 32, 1000, 1001] (i + 1, N) := rfl
      refine r_aload0 dX3_readsCommand_102 ?_
      refine r_bipush (v := nI 105) dX3_readsCommand_103 (by decide) ?_
      refine r_callV (M' := mX3_reads) _ dX3_readsCommand_105 q3928 q3930 qs113 rfl (lw_all_tbl q3931) q138 (by exact pl_X3_reads) gc_X3 m96.1 ((k_reads hb m96 q96 (by decide))) (by omega) (Nat.le_of_ble_eq_true rfl) (by omega) (by omega) rfl (Nat.le_of_ble_eq_true rfl) rfl (kI fun r105 h105 n105 e105 => ?_) kN
      obtain ⟨V105, rfl, m105, q105, t105, rfl⟩ := e105
      have T105 := T96.tr t105
      refine r_if_eqB (tgt := 131) dX3_readsCommand_108 (by decide) (fun c108 => ?_) (fun c108 => ?_)
      · refine r_iconst (v := nI 0) dX3_readsCommand_131 (by decide) ?_
        exact r_ireturn dX3_readsCommand_132 rfl (by first | exact nB_nar | rfl) ((by rw [if_neg c108] at q105; exact ⟨pB.no (hX.trans (congrArg (Prod.mk 109) (hr0.trans (runT_cn (by decide) c108)))) m105 q105, T105, rfl⟩))
      · rw [if_pos c108] at q105
        have hr105 := hr0.trans (runT_cy (by decide) c108)
        refine r_aload0 dX3_readsCommand_111 ?_
        refine r_bipush (v := nI 120) dX3_readsCommand_112 (by decide) ?_
        refine r_callV (M' := mX3_reads) _ dX3_readsCommand_114 q3928 q3930 qs113 rfl (lw_all_tbl q3931) q138 (by exact pl_X3_reads) gc_X3 m105.1 ((k_reads hb m105 q105 (by decide))) (by omega) (Nat.le_of_ble_eq_true rfl) (by omega) (by omega) rfl (Nat.le_of_ble_eq_true rfl) rfl (kI fun r114 h114 n114 e114 => ?_) kN
        obtain ⟨V114, rfl, m114, q114, t114, rfl⟩ := e114
        have T114 := T105.tr t114
        refine r_if_eqB (tgt := 131) dX3_readsCommand_117 (by decide) (fun c117 => ?_) (fun c117 => ?_)
        · refine r_iconst (v := nI 0) dX3_readsCommand_131 (by decide) ?_
          exact r_ireturn dX3_readsCommand_132 rfl (by first | exact nB_nar | rfl) ((by rw [if_neg c117] at q114; exact ⟨pB.no (hX.trans (congrArg (Prod.mk 109) (hr105.trans (runT_cn (by decide) c117)))) m114 q114, T114, rfl⟩))
        · rw [if_pos c117] at q114
          have hr114 := hr105.trans (runT_cy (by decide) c117)
          refine r_aload0 dX3_readsCommand_120 ?_
          refine r_callV (M' := mX3_readsTwo) _ dX3_readsCommand_121 q3940 q3942 qs116 rfl (lw_all_tbl q3943) q138 (by exact pl_X3_readsTwo) gc_X3 m114.1 ((k_readsTwo hb m114 q114)) (by omega) (Nat.le_of_ble_eq_true rfl) (by omega) (by omega) rfl (Nat.le_of_ble_eq_true rfl) rfl (kI fun r121 h121 n121 e121 => ?_) kN
          obtain ⟨⟨V121, rfl, m121, q121⟩, t121, rfl⟩ := e121
          refine r_if_eqB (tgt := 131) dX3_readsCommand_124 (by decide) (fun c124 => ?_) (fun c124 => ?_)
          · refine r_iconst (v := nI 0) dX3_readsCommand_131 (by decide) ?_
            exact r_ireturn dX3_readsCommand_132 rfl (by first | exact nB_nar | rfl) (⟨pB.of (hX.trans (congrArg (Prod.mk 109) hr114)) ((nx_c q (by decide)).mpr c99) ⟨V121, nB_f c124, m121, q121⟩, T114.tr t121, rfl⟩)
          · refine r_iconst (v := nI 1) dX3_readsCommand_127 (by decide) ?_
            refine r_goto (tgt := 132) dX3_readsCommand_128 (by decide) ?_
            exact r_ireturn dX3_readsCommand_132 rfl (by first | exact nB_nar | rfl) (⟨pB.of (hX.trans (congrArg (Prod.mk 109) hr114)) ((nx_c q (by decide)).mpr c99) ⟨V121, nB_t c124, m121, q121⟩, T114.tr t121, rfl⟩)
  · rw [if_pos c14] at q11
    have hX : cmd t (i, N) = (100, runT t [111, 117, 103, 104, 32, 2000, 47, 2001] (i + 1, N)) := by unfold cmd; rw [if_pos c14]
    have hr0 : runT t [111, 117, 103, 104, 32, 2000, 47, 2001] (i + 1, N) = runT t [111, 117, 103, 104, 32, 2000, 47, 2001] (i + 1, N) := rfl
    refine r_aload0 dX3_readsCommand_17 ?_
    refine r_bipush (v := nI 111) dX3_readsCommand_18 (by decide) ?_
    refine r_callV (M' := mX3_reads) _ dX3_readsCommand_20 q3928 q3930 qs113 rfl (lw_all_tbl q3931) q138 (by exact pl_X3_reads) gc_X3 m11.1 ((k_reads hb m11 q11 (by decide))) (by omega) (Nat.le_of_ble_eq_true rfl) (by omega) (by omega) rfl (Nat.le_of_ble_eq_true rfl) rfl (kI fun r20 h20 n20 e20 => ?_) kN
    obtain ⟨V20, rfl, m20, q20, t20, rfl⟩ := e20
    have T20 := T11.tr t20
    refine r_if_eqB (tgt := 91) dX3_readsCommand_23 (by decide) (fun c23 => ?_) (fun c23 => ?_)
    · refine r_iconst (v := nI 0) dX3_readsCommand_91 (by decide) ?_
      exact r_ireturn dX3_readsCommand_92 rfl (by first | exact nB_nar | rfl) ((by rw [if_neg c23] at q20; exact ⟨pB.no (hX.trans (congrArg (Prod.mk 100) (hr0.trans (runT_cn (by decide) c23)))) m20 q20, T20, rfl⟩))
    · rw [if_pos c23] at q20
      have hr20 := hr0.trans (runT_cy (by decide) c23)
      refine r_aload0 dX3_readsCommand_26 ?_
      refine r_bipush (v := nI 117) dX3_readsCommand_27 (by decide) ?_
      refine r_callV (M' := mX3_reads) _ dX3_readsCommand_29 q3928 q3930 qs113 rfl (lw_all_tbl q3931) q138 (by exact pl_X3_reads) gc_X3 m20.1 ((k_reads hb m20 q20 (by decide))) (by omega) (Nat.le_of_ble_eq_true rfl) (by omega) (by omega) rfl (Nat.le_of_ble_eq_true rfl) rfl (kI fun r29 h29 n29 e29 => ?_) kN
      obtain ⟨V29, rfl, m29, q29, t29, rfl⟩ := e29
      have T29 := T20.tr t29
      refine r_if_eqB (tgt := 91) dX3_readsCommand_32 (by decide) (fun c32 => ?_) (fun c32 => ?_)
      · refine r_iconst (v := nI 0) dX3_readsCommand_91 (by decide) ?_
        exact r_ireturn dX3_readsCommand_92 rfl (by first | exact nB_nar | rfl) ((by rw [if_neg c32] at q29; exact ⟨pB.no (hX.trans (congrArg (Prod.mk 100) (hr20.trans (runT_cn (by decide) c32)))) m29 q29, T29, rfl⟩))
      · rw [if_pos c32] at q29
        have hr29 := hr20.trans (runT_cy (by decide) c32)
        refine r_aload0 dX3_readsCommand_35 ?_
        refine r_bipush (v := nI 103) dX3_readsCommand_36 (by decide) ?_
        refine r_callV (M' := mX3_reads) _ dX3_readsCommand_38 q3928 q3930 qs113 rfl (lw_all_tbl q3931) q138 (by exact pl_X3_reads) gc_X3 m29.1 ((k_reads hb m29 q29 (by decide))) (by omega) (Nat.le_of_ble_eq_true rfl) (by omega) (by omega) rfl (Nat.le_of_ble_eq_true rfl) rfl (kI fun r38 h38 n38 e38 => ?_) kN
        obtain ⟨V38, rfl, m38, q38, t38, rfl⟩ := e38
        have T38 := T29.tr t38
        refine r_if_eqB (tgt := 91) dX3_readsCommand_41 (by decide) (fun c41 => ?_) (fun c41 => ?_)
        · refine r_iconst (v := nI 0) dX3_readsCommand_91 (by decide) ?_
          exact r_ireturn dX3_readsCommand_92 rfl (by first | exact nB_nar | rfl) ((by rw [if_neg c41] at q38; exact ⟨pB.no (hX.trans (congrArg (Prod.mk 100) (hr29.trans (runT_cn (by decide) c41)))) m38 q38, T38, rfl⟩))
        · rw [if_pos c41] at q38
          have hr38 := hr29.trans (runT_cy (by decide) c41)
          refine r_aload0 dX3_readsCommand_44 ?_
          refine r_bipush (v := nI 104) dX3_readsCommand_45 (by decide) ?_
          refine r_callV (M' := mX3_reads) _ dX3_readsCommand_47 q3928 q3930 qs113 rfl (lw_all_tbl q3931) q138 (by exact pl_X3_reads) gc_X3 m38.1 ((k_reads hb m38 q38 (by decide))) (by omega) (Nat.le_of_ble_eq_true rfl) (by omega) (by omega) rfl (Nat.le_of_ble_eq_true rfl) rfl (kI fun r47 h47 n47 e47 => ?_) kN
          obtain ⟨V47, rfl, m47, q47, t47, rfl⟩ := e47
          have T47 := T38.tr t47
          refine r_if_eqB (tgt := 91) dX3_readsCommand_50 (by decide) (fun c50 => ?_) (fun c50 => ?_)
          · refine r_iconst (v := nI 0) dX3_readsCommand_91 (by decide) ?_
            exact r_ireturn dX3_readsCommand_92 rfl (by first | exact nB_nar | rfl) ((by rw [if_neg c50] at q47; exact ⟨pB.no (hX.trans (congrArg (Prod.mk 100) (hr38.trans (runT_cn (by decide) c50)))) m47 q47, T47, rfl⟩))
          · rw [if_pos c50] at q47
            have hr47 := hr38.trans (runT_cy (by decide) c50)
            refine r_aload0 dX3_readsCommand_53 ?_
            refine r_bipush (v := nI 32) dX3_readsCommand_54 (by decide) ?_
            refine r_callV (M' := mX3_reads) _ dX3_readsCommand_56 q3928 q3930 qs113 rfl (lw_all_tbl q3931) q138 (by exact pl_X3_reads) gc_X3 m47.1 ((k_reads hb m47 q47 (by decide))) (by omega) (Nat.le_of_ble_eq_true rfl) (by omega) (by omega) rfl (Nat.le_of_ble_eq_true rfl) rfl (kI fun r56 h56 n56 e56 => ?_) kN
            obtain ⟨V56, rfl, m56, q56, t56, rfl⟩ := e56
            have T56 := T47.tr t56
            refine r_if_eqB (tgt := 91) dX3_readsCommand_59 (by decide) (fun c59 => ?_) (fun c59 => ?_)
            · refine r_iconst (v := nI 0) dX3_readsCommand_91 (by decide) ?_
              exact r_ireturn dX3_readsCommand_92 rfl (by first | exact nB_nar | rfl) ((by rw [if_neg c59] at q56; exact ⟨pB.no (hX.trans (congrArg (Prod.mk 100) (hr47.trans (runT_cn (by decide) c59)))) m56 q56, T56, rfl⟩))
            · rw [if_pos c59] at q56
              have hr56 := hr47.trans (runT_cy (by decide) c59)
              refine r_aload0 dX3_readsCommand_62 ?_
              refine r_iconst (v := nI 0) dX3_readsCommand_63 (by decide) ?_
              refine r_callV (M' := mX3_readsNumber) _ dX3_readsCommand_64 q3932 q3934 qs114 rfl (lw_all_tbl q3935) q138 (by exact pl_X3_readsNumber) gc_X3 m56.1 ((k_readsNumber (k := 0) hb m56 q56 (by decide))) (by omega) (Nat.le_of_ble_eq_true rfl) (by omega) (by omega) rfl (Nat.le_of_ble_eq_true rfl) rfl (kI fun r64 h64 n64 e64 => ?_) kN
              obtain ⟨V64, rfl, m64, q64, t64, rfl⟩ := e64
              have T64 := T56.tr t64
              refine r_if_eqB (tgt := 91) dX3_readsCommand_67 (by decide) (fun c67 => ?_) (fun c67 => ?_)
              · refine r_iconst (v := nI 0) dX3_readsCommand_91 (by decide) ?_
                exact r_ireturn dX3_readsCommand_92 rfl (by first | exact nB_nar | rfl) ((by rw [if_neg c67, if_neg c67] at q64; exact ⟨pB.no (hX.trans (congrArg (Prod.mk 100) (hr56.trans (runT_nn (k := 0) (by decide) c67)))) m64 q64, T64, rfl⟩))
              · rw [if_pos c67, if_pos c67] at q64
                have hr64 := hr56.trans (runT_ny (k := 0) (by decide) c67)
                refine r_aload0 dX3_readsCommand_70 ?_
                refine r_bipush (v := nI 47) dX3_readsCommand_71 (by decide) ?_
                refine r_callV (M' := mX3_reads) _ dX3_readsCommand_73 q3928 q3930 qs113 rfl (lw_all_tbl q3931) q138 (by exact pl_X3_reads) gc_X3 m64.1 ((k_reads hb m64 q64 (by decide))) (by omega) (Nat.le_of_ble_eq_true rfl) (by omega) (by omega) rfl (Nat.le_of_ble_eq_true rfl) rfl (kI fun r73 h73 n73 e73 => ?_) kN
                obtain ⟨V73, rfl, m73, q73, t73, rfl⟩ := e73
                have T73 := T64.tr t73
                refine r_if_eqB (tgt := 91) dX3_readsCommand_76 (by decide) (fun c76 => ?_) (fun c76 => ?_)
                · refine r_iconst (v := nI 0) dX3_readsCommand_91 (by decide) ?_
                  exact r_ireturn dX3_readsCommand_92 rfl (by first | exact nB_nar | rfl) ((by rw [if_neg c76] at q73; exact ⟨pB.no (hX.trans (congrArg (Prod.mk 100) (hr64.trans (runT_cn (by decide) c76)))) m73 q73, T73, rfl⟩))
                · rw [if_pos c76] at q73
                  have hr73 := hr64.trans (runT_cy (by decide) c76)
                  refine r_aload0 dX3_readsCommand_79 ?_
                  refine r_iconst (v := nI 1) dX3_readsCommand_80 (by decide) ?_
                  refine r_callV (M' := mX3_readsNumber) _ dX3_readsCommand_81 q3932 q3934 qs114 rfl (lw_all_tbl q3935) q138 (by exact pl_X3_readsNumber) gc_X3 m73.1 ((k_readsNumber (k := 1) hb m73 q73 (by decide))) (by omega) (Nat.le_of_ble_eq_true rfl) (by omega) (by omega) rfl (Nat.le_of_ble_eq_true rfl) rfl (kI fun r81 h81 n81 e81 => ?_) kN
                  obtain ⟨V81, rfl, m81, q81, t81, rfl⟩ := e81
                  have T81 := T73.tr t81
                  refine r_if_eqB (tgt := 91) dX3_readsCommand_84 (by decide) (fun c84 => ?_) (fun c84 => ?_)
                  · refine r_iconst (v := nI 0) dX3_readsCommand_91 (by decide) ?_
                    exact r_ireturn dX3_readsCommand_92 rfl (by first | exact nB_nar | rfl) ((by rw [if_neg c84, if_neg c84] at q81; exact ⟨pB.no (hX.trans (congrArg (Prod.mk 100) (hr73.trans (runT_nn (k := 1) (by decide) c84)))) m81 q81, T81, rfl⟩))
                  · rw [if_pos c84, if_pos c84] at q81
                    have hr81 := hr73.trans (runT_ny (k := 1) (by decide) c84)
                    refine r_iconst (v := nI 1) dX3_readsCommand_87 (by decide) ?_
                    refine r_goto (tgt := 92) dX3_readsCommand_88 (by decide) ?_
                    exact r_ireturn dX3_readsCommand_92 rfl (by first | exact nB_nar | rfl) (⟨pB.yes (hX.trans (congrArg (Prod.mk 100) hr81)) ((nx_c q (by decide)).mpr c14) m81 q81, T81, rfl⟩)
end
