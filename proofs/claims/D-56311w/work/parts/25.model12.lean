/-! the reference: its texts -/
set_option maxRecDepth 100000
/-- what is left of a rendering -/
def mW (a : Nat) (V : Nat → Nat → Int32) (R : Nat → Nat → Nat) (A : Nat → Nat → Int64) (e : Nat) (s : List Nat) (r : Int32) (h' : g_P) : Prop :=
  ∃ V', mS a V' R A h' ∧ V' 0 0 = nI e ∧ (e ≠ 0 → vE V V') ∧ (e = 0 → r = nI s.length ∧ lS V' s ∧ (∀ i, i ∈ [5, 6, 7, 15, 17, 18, 19] → V' 0 i = V 0 i) ∧ V' 7 = V 7)
section
variable {ρ : Nat → Nat} {u : Nat}
theorem crq_b (w : wB u ρ) {k : Nat} (h : k < ρ 0) : crm ρ k / 10 ^ ρ 3 ≤ 10000 := by
  have h1 := rnd_b (rule := ρ 4) (ab := ρ (10 + 2 * k) * 10 ^ ρ 3) (be := ρ (11 + 2 * k))
  have h2 := Nat.div_le_self (ρ (10 + 2 * k) * 10 ^ ρ 3) (ρ (11 + 2 * k))
  have h3 : ρ (10 + 2 * k) * 10 ^ ρ 3 ≤ 9999 * 10 ^ ρ 3 := Nat.mul_le_mul_right _ (w.d h).1
  have h4 : 0 < 10 ^ ρ 3 := p10_pos
  have h5 : crm ρ k ≤ 10 ^ ρ 3 * 10000 := by unfold crm; omega
  exact Nat.div_le_of_le_mul h5
theorem txB_len (w : wB u ρ) {k : Nat} (h : k ≤ ρ 1) : (txB ρ k).length ≤ 10 * k := by
  induction k with
  | zero => exact Nat.le_refl _
  | succ k ih =>
    have h1 := ih (by omega)
    have h2 := w.o (k := k) (by omega)
    have h3 := ndg_s (v := ρ (23 + 2 * k)) (m := 3) (by omega) (by decide)
    have h4 := ndg_s (v := ρ (22 + 2 * k)) (m := 3) (by omega) (by decide)
    have h5 : (if 0 < k then [32] else [] : List Nat).length ≤ 1 := by split <;> decide
    show (txB ρ k ++ ((if 0 < k then [32] else []) ++ (dgN (ρ (23 + 2 * k)) ++ 47 :: dgN (ρ (22 + 2 * k))))).length ≤ _
    rw [List.length_append, List.length_append, List.length_append, List.length_cons]
    unfold dgN
    rw [dgs_len, dgs_len]
    omega
end
section
variable {K : g_K} {a n u : Nat} {V : Nat → Nat → Int32} {R : Nat → Nat → Nat} {A : Nat → Nat → Int64} {h : g_P}
/-- the line empty -/
def vN (V : Nat → Nat → Int32) : Nat → Nat → Int32 := up1 (vZ V) 0 (fup (vZ V 0) 13 (nI 0))
theorem vN_l : lS (vN V) [] := by
  unfold lS vN
  rw [up1_s, fup_s]
  exact sS.nil
theorem vN_i {i : Nat} (h : i ≠ 13) : vN V 0 i = vZ V 0 i := by
  unfold vN
  rw [up1_s, fup_n h]
theorem mW.yes {V' : Nat → Nat → Int32} {e : Nat} {s : List Nat} {r : Int32} (he : e = 0) (m : mS a V' R A h) (l : lS V' s) (v : vL (vN V) V') (hr : r = V' 0 13) : mW a V R A e s r h := by
  subst he
  refine ⟨V', m, ?_, fun z => absurd rfl z, fun _ => ⟨by rw [hr]; exact l.1, l, fun i hi => ?_, ?_⟩⟩
  · rw [v.1 0 (by decide), vN_i (by decide), vZ_0]
  · have h1 : i ≠ 13 ∧ i ≠ 0 := by
      simp only [List.mem_cons, List.not_mem_nil, or_false] at hi
      omega
    rw [v.1 i h1.1, vN_i h1.1, vZ_n h1.2]
  · rw [v.2]
    unfold vN
    rw [up1_n (by decide), vZ_c (by decide)]
theorem mW.no {e : Nat} {s : List Nat} {r : Int32} (he : e ≠ 0) (m : mS a (up1 (vZ V) 0 (fup (vZ V 0) 0 (nI e))) R A h) : mW a V R A e s r h := by
  obtain ⟨V', m1, m2, m3⟩ := m.fz
  exact ⟨V', m1, m2, fun _ => m3, fun z => absurd z he⟩
theorem k_renderDough {p : Int32} (hb : k_b K ≤ a) (m : mS a V R A h) (w : wB u (R 1)) : g_Met K mX3_renderDough 5 0 0 [.ref a, .int p] h n (gI fun r h' n' => mW a V R A (if ix p (R 1 0) then 0 else 1) (txD (R 1) (tN p)) r h' ∧ mT a h h' ∧ n' = n) gN := by
  have b := w.b
  by_cases hp : ix p (R 1 0)
  · rw [if_pos hp]
    obtain ⟨i, hi, rfl, ti⟩ := ix_ex hp
    rw [ti]
    have d := w.d hi
    have c1 := crm_b w hi
    have c2 := crq_b w hi
    have n1 := ndg_s (v := R 1 (10 + 2 * i)) (m := 3) (by omega) (by decide)
    have n2 := ndg_s (v := R 1 (11 + 2 * i)) (m := 1) (by omega) (by decide)
    have n3 := ndg_s (v := crm (R 1) i / 10 ^ R 1 3) (m := 4) (by omega) (by decide)
    have l1 : (dgN (R 1 (10 + 2 * i))).length = ndg (R 1 (10 + 2 * i)) + 1 := dgs_len
    have l2 : (dgN (R 1 (11 + 2 * i))).length = ndg (R 1 (11 + 2 * i)) + 1 := dgs_len
    have l3 : (dgN (crm (R 1) i / 10 ^ R 1 3)).length = ndg (crm (R 1) i / 10 ^ R 1 3) + 1 := dgs_len
    have pb := p10_le (k := R 1 3) (by omega)
    have pp : 0 < 10 ^ R 1 3 := p10_pos
    refine g_Met.of (M := mX3_renderDough) (L := [some (.ref a), some (.int (nI i)), none]) (by decide +kernel) (Nat.le_of_ble_eq_true rfl) rfl ?_
    have loop : ∀ (j : Nat) (s1 : List Nat) (V1 : Nat → Nat → Int32) (h1 : g_P), j ≤ 4 → s1.length + j ≤ 50 → s1 ++ dgt (crm (R 1) i) j = txD (R 1) i → mS a V1 R A h1 → lS V1 s1 → vL (vN V) V1 → mT a h h1 → g_G K mX3_renderDough 5 0 0 (gI fun r h' n' => mW a V R A 0 (txD (R 1) i) r h' ∧ mT a h h' ∧ n' = n) gN 82 [some (.ref a), some (.int (nI i)), some (.int (nI (10 ^ j / 10)))] [] h1 n := by
      intro j
      induction j with
      | zero =>
        intro s1 V1 h1 hj hl he m1 q1 v1 t1
        refine r_iload2 dX3_renderDough_82 ?_
        refine r_if_leN (tgt := 111) dX3_renderDough_83 (by decide) (by omega) (fun c83 => ?_) (fun c83 => absurd c83 (by omega))
        refine r_aload0 dX3_renderDough_111 ?_
        refine f_X3_260_X3 dX3_renderDough_112 m1.1 ?_
        exact r_ireturn dX3_renderDough_115 rfl rfl (⟨mW.yes rfl m1 (by rw [← he, show dgt (crm (R 1) i) 0 = [] from rfl, List.append_nil]; exact q1) v1 rfl, t1, rfl⟩)
      | succ j ih =>
        intro s1 V1 h1 hj hl he m1 q1 v1 t1
        have e1 : 10 ^ (j + 1) / 10 = 10 ^ j := by rw [Nat.pow_succ]; exact Nat.mul_div_cancel _ (by decide)
        rw [e1]
        have b1 := p10_le (k := j) (by omega)
        have b2 : 0 < 10 ^ j := p10_pos
        have b3 := Nat.div_le_self (crm (R 1) i) (10 ^ j)
        refine r_iload2 dX3_renderDough_82 ?_
        refine r_if_leN (tgt := 111) dX3_renderDough_83 (by decide) (by omega) (fun c83 => absurd c83 (by omega)) (fun c83 => ?_)
        refine r_aload0 dX3_renderDough_86 ?_
        refine r_bipush (v := nI 48) dX3_renderDough_87 (by decide) ?_
        refine r_aload0 dX3_renderDough_89 ?_
        refine r_iload1 dX3_renderDough_90 ?_
        refine r_callV (M' := mX3_crumbs) _ dX3_renderDough_91 q3631 q3633 qs84 rfl (lw_all_tbl q3634) q138 (by exact pl_X3_crumbs) gc_X3 (by first | exact m.1 | exact m0.1 | exact m1.1 | exact m2.1 | exact m3.1 | exact m4.1 | exact m5.1 | assumption | exact g_us | (rw [g_un (by omega)]; assumption) | (rw [g_un (by omega)]; exact g_us) | (rw [g_un (by omega), g_un (by omega)]; assumption) | (rw [g_un (by omega), g_un (by omega)]; exact g_us) | (rw [g_un (by omega), g_un (by omega), g_un (by omega)]; assumption) | ((repeat (rw [g_un (by omega)])); first | exact m.1 | exact m0.1 | exact m1.1 | exact m2.1 | exact m3.1 | exact m4.1 | exact m5.1 | exact g_us | assumption)) ((k_crumbs m1 w hi)) (by omega) (Nat.le_of_ble_eq_true rfl) (by omega) (by omega) rfl (Nat.le_of_ble_eq_true rfl) rfl (kI fun r91 h91 n91 e91 => ?_) kN
        obtain ⟨rfl, rfl, rfl⟩ := e91
        refine r_iload2 dX3_renderDough_94 ?_
        refine r_idiv dX3_renderDough_95 (nI_ne0 (by omega) (by omega)) (by first | exact pk_div (by omega) (by omega) (by omega) | rfl) ?_
        refine r_bipush (v := nI 10) dX3_renderDough_96 (by decide) ?_
        refine r_irem dX3_renderDough_98 (nI_ne0 (by omega) (by omega)) (by first | exact pk_rem (by omega) (by omega) (by omega) | rfl) ?_
        refine r_iadd dX3_renderDough_99 (by first | exact nI_add _ _ | rfl) ?_
        refine r_callV (M' := mX3_writes) _ dX3_renderDough_100 q3896 q3898 qs109 rfl (lw_all_tbl q3899) q138 (by exact pl_X3_writes) gc_X3 (by first | exact m.1 | exact m0.1 | exact m1.1 | exact m2.1 | exact m3.1 | exact m4.1 | exact m5.1 | assumption | exact g_us | (rw [g_un (by omega)]; assumption) | (rw [g_un (by omega)]; exact g_us) | (rw [g_un (by omega), g_un (by omega)]; assumption) | (rw [g_un (by omega), g_un (by omega)]; exact g_us) | (rw [g_un (by omega), g_un (by omega), g_un (by omega)]; assumption) | ((repeat (rw [g_un (by omega)])); first | exact m.1 | exact m0.1 | exact m1.1 | exact m2.1 | exact m3.1 | exact m4.1 | exact m5.1 | exact g_us | assumption)) ((k_writes (s := s1) (k := 48 + crm (R 1) i / 10 ^ j % 10) hb m1 q1 (by omega) (by omega))) (by omega) (Nat.le_of_ble_eq_true rfl) (by omega) (by omega) rfl (Nat.le_of_ble_eq_true rfl) rfl (kV fun h100 n100 e100 => ?_) kN
        obtain ⟨⟨V2, m2, q2, v2⟩, t2, rfl⟩ := e100
        refine r_iload2 dX3_renderDough_103 ?_
        refine r_bipush (v := nI 10) dX3_renderDough_104 (by decide) ?_
        refine r_idiv dX3_renderDough_106 (nI_ne0 (by omega) (by omega)) (by first | exact pk_div (by omega) (by omega) (by omega) | rfl) ?_
        refine r_istore2 dX3_renderDough_107 ?_
        refine r_goto (tgt := 82) dX3_renderDough_108 (by decide) ?_
        exact ih (s1 ++ [48 + crm (R 1) i / 10 ^ j % 10]) V2 _ (by omega) (by rw [List.length_append]; show s1.length + 1 + j ≤ 50; omega) (by rw [← he, List.append_assoc]; rfl) m2 q2 (v1.tr v2) (t1.tr t2)
    refine r_aload0 dX3_renderDough_0 ?_
    refine r_iconst (v := nI 0) dX3_renderDough_1 (by decide) ?_
    refine p_X3_1_X3 dX3_renderDough_2 (by omega) (by first | exact m.1 | exact m0.1 | exact m1.1 | exact m2.1 | exact m3.1 | exact m4.1 | exact m5.1 | assumption | exact g_us | (rw [g_un (by omega)]; assumption) | (rw [g_un (by omega)]; exact g_us) | (rw [g_un (by omega), g_un (by omega)]; assumption) | (rw [g_un (by omega), g_un (by omega)]; exact g_us) | (rw [g_un (by omega), g_un (by omega), g_un (by omega)]; assumption) | ((repeat (rw [g_un (by omega)])); first | exact m.1 | exact m0.1 | exact m1.1 | exact m2.1 | exact m3.1 | exact m4.1 | exact m5.1 | exact g_us | assumption)) ?_
    refine m.goZ (fun h0 m0 t0 => ?_)
    refine r_aload0 dX3_renderDough_5 ?_
    refine r_iload1 dX3_renderDough_6 ?_
    refine r_callV (M' := mX3_isDough) _ dX3_renderDough_7 q3524 q3526 qs64 rfl (lw_all_tbl q3527) q138 (by exact pl_X3_isDough) gc_X3 (by first | exact m.1 | exact m0.1 | exact m1.1 | exact m2.1 | exact m3.1 | exact m4.1 | exact m5.1 | assumption | exact g_us | (rw [g_un (by omega)]; assumption) | (rw [g_un (by omega)]; exact g_us) | (rw [g_un (by omega), g_un (by omega)]; assumption) | (rw [g_un (by omega), g_un (by omega)]; exact g_us) | (rw [g_un (by omega), g_un (by omega), g_un (by omega)]; assumption) | ((repeat (rw [g_un (by omega)])); first | exact m.1 | exact m0.1 | exact m1.1 | exact m2.1 | exact m3.1 | exact m4.1 | exact m5.1 | exact g_us | assumption)) ((k_isDough m0 w)) (by omega) (Nat.le_of_ble_eq_true rfl) (by omega) (by omega) rfl (Nat.le_of_ble_eq_true rfl) rfl (kI fun r7 h7 n7 e7 => ?_) kN
    obtain ⟨rfl, rfl, rfl⟩ := e7
    refine r_if_neB (tgt := 19) dX3_renderDough_10 (by decide) (fun c10 => ?_) (fun c10 => absurd c10 (fun z => z hp))
    refine r_aload0 dX3_renderDough_19 ?_
    refine r_iconst (v := nI 0) dX3_renderDough_20 (by decide) ?_
    refine p_X3_260_X3 dX3_renderDough_21 (by omega) (by first | exact m.1 | exact m0.1 | exact m1.1 | exact m2.1 | exact m3.1 | exact m4.1 | exact m5.1 | assumption | exact g_us | (rw [g_un (by omega)]; assumption) | (rw [g_un (by omega)]; exact g_us) | (rw [g_un (by omega), g_un (by omega)]; assumption) | (rw [g_un (by omega), g_un (by omega)]; exact g_us) | (rw [g_un (by omega), g_un (by omega), g_un (by omega)]; assumption) | ((repeat (rw [g_un (by omega)])); first | exact m.1 | exact m0.1 | exact m1.1 | exact m2.1 | exact m3.1 | exact m4.1 | exact m5.1 | exact g_us | assumption)) ?_
    refine m0.goI (i := fup (vZ V 0) 13 (nI 0)) (fun h1 m1 t1 => ?_)
    have m1 : mS a (vN V) R A h1 := m1
    have t1 : mT a h h1 := t0.tr t1
    refine r_aload0 dX3_renderDough_24 ?_
    refine r_aload0 dX3_renderDough_25 ?_
    refine r_iload1 dX3_renderDough_26 ?_
    refine r_iconst (v := nI 0) dX3_renderDough_27 (by decide) ?_
    refine r_callV (M' := mX3_dough) _ dX3_renderDough_28 q3532 q3534 qs66 rfl (lw_all_tbl q3535) q138 (by exact pl_X3_dough) gc_X3 (by first | exact m.1 | exact m0.1 | exact m1.1 | exact m2.1 | exact m3.1 | exact m4.1 | exact m5.1 | assumption | exact g_us | (rw [g_un (by omega)]; assumption) | (rw [g_un (by omega)]; exact g_us) | (rw [g_un (by omega), g_un (by omega)]; assumption) | (rw [g_un (by omega), g_un (by omega)]; exact g_us) | (rw [g_un (by omega), g_un (by omega), g_un (by omega)]; assumption) | ((repeat (rw [g_un (by omega)])); first | exact m.1 | exact m0.1 | exact m1.1 | exact m2.1 | exact m3.1 | exact m4.1 | exact m5.1 | exact g_us | assumption)) ((k_dough m1 (by omega) (by decide))) (by omega) (Nat.le_of_ble_eq_true rfl) (by omega) (by omega) rfl (Nat.le_of_ble_eq_true rfl) rfl (kI fun r28 h28 n28 e28 => ?_) kN
    obtain ⟨rfl, rfl, rfl⟩ := e28
    rw [show 10 + 2 * i + 0 = 10 + 2 * i from rfl]
    refine r_aload0 dX3_renderDough_31 ?_
    refine r_iload1 dX3_renderDough_32 ?_
    refine r_iconst (v := nI 1) dX3_renderDough_33 (by decide) ?_
    refine r_callV (M' := mX3_dough) _ dX3_renderDough_34 q3532 q3534 qs66 rfl (lw_all_tbl q3535) q138 (by exact pl_X3_dough) gc_X3 (by first | exact m.1 | exact m0.1 | exact m1.1 | exact m2.1 | exact m3.1 | exact m4.1 | exact m5.1 | assumption | exact g_us | (rw [g_un (by omega)]; assumption) | (rw [g_un (by omega)]; exact g_us) | (rw [g_un (by omega), g_un (by omega)]; assumption) | (rw [g_un (by omega), g_un (by omega)]; exact g_us) | (rw [g_un (by omega), g_un (by omega), g_un (by omega)]; assumption) | ((repeat (rw [g_un (by omega)])); first | exact m.1 | exact m0.1 | exact m1.1 | exact m2.1 | exact m3.1 | exact m4.1 | exact m5.1 | exact g_us | assumption)) ((k_dough m1 (by omega) (by decide))) (by omega) (Nat.le_of_ble_eq_true rfl) (by omega) (by omega) rfl (Nat.le_of_ble_eq_true rfl) rfl (kI fun r34 h34 n34 e34 => ?_) kN
    obtain ⟨rfl, rfl, rfl⟩ := e34
    rw [show 10 + 2 * i + 1 = 11 + 2 * i by omega]
    refine r_callV (M' := mX3_writesTwo) _ dX3_renderDough_37 q3888 q3890 qs107 rfl (lw_all_tbl q3891) q138 (by exact pl_X3_writesTwo) gc_X3 (by first | exact m.1 | exact m0.1 | exact m1.1 | exact m2.1 | exact m3.1 | exact m4.1 | exact m5.1 | assumption | exact g_us | (rw [g_un (by omega)]; assumption) | (rw [g_un (by omega)]; exact g_us) | (rw [g_un (by omega), g_un (by omega)]; assumption) | (rw [g_un (by omega), g_un (by omega)]; exact g_us) | (rw [g_un (by omega), g_un (by omega), g_un (by omega)]; assumption) | ((repeat (rw [g_un (by omega)])); first | exact m.1 | exact m0.1 | exact m1.1 | exact m2.1 | exact m3.1 | exact m4.1 | exact m5.1 | exact g_us | assumption)) ((k_writesTwo hb m1 vN_l (by show 0 + _ + _ + 2 < 60; omega) (by omega) (by omega))) (by omega) (Nat.le_of_ble_eq_true rfl) (by omega) (by omega) rfl (Nat.le_of_ble_eq_true rfl) rfl (kV fun h37 n37 e37 => ?_) kN
    obtain ⟨⟨V2, m2, q2, v2⟩, t2, rfl⟩ := e37
    rw [List.nil_append] at q2
    have g2 : (dgN (R 1 (10 + 2 * i)) ++ 47 :: dgN (R 1 (11 + 2 * i))).length ≤ 8 := by rw [List.length_append, List.length_cons]; omega
    refine r_aload0 dX3_renderDough_40 ?_
    refine r_bipush (v := nI 61) dX3_renderDough_41 (by decide) ?_
    refine r_callV (M' := mX3_writes) _ dX3_renderDough_43 q3896 q3898 qs109 rfl (lw_all_tbl q3899) q138 (by exact pl_X3_writes) gc_X3 (by first | exact m.1 | exact m0.1 | exact m1.1 | exact m2.1 | exact m3.1 | exact m4.1 | exact m5.1 | assumption | exact g_us | (rw [g_un (by omega)]; assumption) | (rw [g_un (by omega)]; exact g_us) | (rw [g_un (by omega), g_un (by omega)]; assumption) | (rw [g_un (by omega), g_un (by omega)]; exact g_us) | (rw [g_un (by omega), g_un (by omega), g_un (by omega)]; assumption) | ((repeat (rw [g_un (by omega)])); first | exact m.1 | exact m0.1 | exact m1.1 | exact m2.1 | exact m3.1 | exact m4.1 | exact m5.1 | exact g_us | assumption)) ((k_writes (k := 61) hb m2 q2 (by omega) (by decide))) (by omega) (Nat.le_of_ble_eq_true rfl) (by omega) (by omega) rfl (Nat.le_of_ble_eq_true rfl) rfl (kV fun h43 n43 e43 => ?_) kN
    obtain ⟨⟨V3, m3, q3, v3⟩, t3, rfl⟩ := e43
    have g3 : (dgN (R 1 (10 + 2 * i)) ++ 47 :: dgN (R 1 (11 + 2 * i)) ++ [61]).length ≤ 9 := by rw [List.length_append]; show _ + 1 ≤ 9; omega
    refine r_aload0 dX3_renderDough_46 ?_
    refine r_aload0 dX3_renderDough_47 ?_
    refine r_iload1 dX3_renderDough_48 ?_
    refine r_callV (M' := mX3_crumbs) _ dX3_renderDough_49 q3631 q3633 qs84 rfl (lw_all_tbl q3634) q138 (by exact pl_X3_crumbs) gc_X3 (by first | exact m.1 | exact m0.1 | exact m1.1 | exact m2.1 | exact m3.1 | exact m4.1 | exact m5.1 | assumption | exact g_us | (rw [g_un (by omega)]; assumption) | (rw [g_un (by omega)]; exact g_us) | (rw [g_un (by omega), g_un (by omega)]; assumption) | (rw [g_un (by omega), g_un (by omega)]; exact g_us) | (rw [g_un (by omega), g_un (by omega), g_un (by omega)]; assumption) | ((repeat (rw [g_un (by omega)])); first | exact m.1 | exact m0.1 | exact m1.1 | exact m2.1 | exact m3.1 | exact m4.1 | exact m5.1 | exact g_us | assumption)) ((k_crumbs m3 w hi)) (by omega) (Nat.le_of_ble_eq_true rfl) (by omega) (by omega) rfl (Nat.le_of_ble_eq_true rfl) rfl (kI fun r49 h49 n49 e49 => ?_) kN
    obtain ⟨rfl, rfl, rfl⟩ := e49
    refine r_aload0 dX3_renderDough_52 ?_
    refine r_callV (M' := mX3_power) _ dX3_renderDough_53 q3635 q3637 qs85 rfl (lw_all_tbl q3638) q138 (by exact pl_X3_power) gc_X3 (by first | exact m.1 | exact m0.1 | exact m1.1 | exact m2.1 | exact m3.1 | exact m4.1 | exact m5.1 | assumption | exact g_us | (rw [g_un (by omega)]; assumption) | (rw [g_un (by omega)]; exact g_us) | (rw [g_un (by omega), g_un (by omega)]; assumption) | (rw [g_un (by omega), g_un (by omega)]; exact g_us) | (rw [g_un (by omega), g_un (by omega), g_un (by omega)]; assumption) | ((repeat (rw [g_un (by omega)])); first | exact m.1 | exact m0.1 | exact m1.1 | exact m2.1 | exact m3.1 | exact m4.1 | exact m5.1 | exact g_us | assumption)) ((k_power m3 w)) (by omega) (Nat.le_of_ble_eq_true rfl) (by omega) (by omega) rfl (Nat.le_of_ble_eq_true rfl) rfl (kI fun r53 h53 n53 e53 => ?_) kN
    obtain ⟨rfl, rfl, rfl⟩ := e53
    refine r_idiv dX3_renderDough_56 (nI_ne0 (by omega) (by omega)) (by first | exact pk_div (by omega) (by omega) (by omega) | rfl) ?_
    refine r_callV (M' := mX3_writesNumber) _ dX3_renderDough_57 q3892 q3894 qs108 rfl (lw_all_tbl q3895) q138 (by exact pl_X3_writesNumber) gc_X3 (by first | exact m.1 | exact m0.1 | exact m1.1 | exact m2.1 | exact m3.1 | exact m4.1 | exact m5.1 | assumption | exact g_us | (rw [g_un (by omega)]; assumption) | (rw [g_un (by omega)]; exact g_us) | (rw [g_un (by omega), g_un (by omega)]; assumption) | (rw [g_un (by omega), g_un (by omega)]; exact g_us) | (rw [g_un (by omega), g_un (by omega), g_un (by omega)]; assumption) | ((repeat (rw [g_un (by omega)])); first | exact m.1 | exact m0.1 | exact m1.1 | exact m2.1 | exact m3.1 | exact m4.1 | exact m5.1 | exact g_us | assumption)) ((k_writesNumber (v := crm (R 1) i / 10 ^ R 1 3) hb m3 q3 (by omega) (by omega))) (by omega) (Nat.le_of_ble_eq_true rfl) (by omega) (by omega) rfl (Nat.le_of_ble_eq_true rfl) rfl (kV fun h57 n57 e57 => ?_) kN
    obtain ⟨⟨V4, m4, q4, v4⟩, t4, rfl⟩ := e57
    have g4 : (dgN (R 1 (10 + 2 * i)) ++ 47 :: dgN (R 1 (11 + 2 * i)) ++ [61] ++ dgN (crm (R 1) i / 10 ^ R 1 3)).length ≤ 14 := by rw [List.length_append]; omega
    refine r_aload0 dX3_renderDough_60 ?_
    refine r_callV (M' := mX3_power) _ dX3_renderDough_61 q3635 q3637 qs85 rfl (lw_all_tbl q3638) q138 (by exact pl_X3_power) gc_X3 (by first | exact m.1 | exact m0.1 | exact m1.1 | exact m2.1 | exact m3.1 | exact m4.1 | exact m5.1 | assumption | exact g_us | (rw [g_un (by omega)]; assumption) | (rw [g_un (by omega)]; exact g_us) | (rw [g_un (by omega), g_un (by omega)]; assumption) | (rw [g_un (by omega), g_un (by omega)]; exact g_us) | (rw [g_un (by omega), g_un (by omega), g_un (by omega)]; assumption) | ((repeat (rw [g_un (by omega)])); first | exact m.1 | exact m0.1 | exact m1.1 | exact m2.1 | exact m3.1 | exact m4.1 | exact m5.1 | exact g_us | assumption)) ((k_power m4 w)) (by omega) (Nat.le_of_ble_eq_true rfl) (by omega) (by omega) rfl (Nat.le_of_ble_eq_true rfl) rfl (kI fun r61 h61 n61 e61 => ?_) kN
    obtain ⟨rfl, rfl, rfl⟩ := e61
    refine r_iconst (v := nI 1) dX3_renderDough_64 (by decide) ?_
    refine r_icmp_leN (tgt := 74) dX3_renderDough_65 (by decide) (by omega) (by omega) (fun c65 => ?_) (fun c65 => ?_)
    · have z3 : R 1 3 = 0 := Decidable.byContradiction fun z => by
        obtain ⟨z, hz⟩ : ∃ z, R 1 3 = z + 1 := ⟨R 1 3 - 1, by omega⟩
        rw [hz, Nat.pow_succ] at c65
        have : 0 < 10 ^ z := p10_pos
        omega
      refine r_aload0 dX3_renderDough_74 ?_
      refine r_callV (M' := mX3_power) _ dX3_renderDough_75 q3635 q3637 qs85 rfl (lw_all_tbl q3638) q138 (by exact pl_X3_power) gc_X3 (by first | exact m.1 | exact m0.1 | exact m1.1 | exact m2.1 | exact m3.1 | exact m4.1 | exact m5.1 | assumption | exact g_us | (rw [g_un (by omega)]; assumption) | (rw [g_un (by omega)]; exact g_us) | (rw [g_un (by omega), g_un (by omega)]; assumption) | (rw [g_un (by omega), g_un (by omega)]; exact g_us) | (rw [g_un (by omega), g_un (by omega), g_un (by omega)]; assumption) | ((repeat (rw [g_un (by omega)])); first | exact m.1 | exact m0.1 | exact m1.1 | exact m2.1 | exact m3.1 | exact m4.1 | exact m5.1 | exact g_us | assumption)) ((k_power m4 w)) (by omega) (Nat.le_of_ble_eq_true rfl) (by omega) (by omega) rfl (Nat.le_of_ble_eq_true rfl) rfl (kI fun r75 h75 n75 e75 => ?_) kN
      obtain ⟨rfl, rfl, rfl⟩ := e75
      refine r_bipush (v := nI 10) dX3_renderDough_78 (by decide) ?_
      refine r_idiv dX3_renderDough_80 (nI_ne0 (by omega) (by omega)) (by first | exact pk_div (by omega) (by omega) (by omega) | rfl) ?_
      refine r_istore2 dX3_renderDough_81 ?_
      exact loop (R 1 3) _ _ _ (by omega) (by omega) (by rw [z3]; unfold txD; rw [z3, if_pos rfl]; simp [dgt]) m4 q4 ((v2.tr v3).tr v4) (((t1.tr t2).tr t3).tr t4)
    · refine r_aload0 dX3_renderDough_68 ?_
      refine r_bipush (v := nI 46) dX3_renderDough_69 (by decide) ?_
      refine r_callV (M' := mX3_writes) _ dX3_renderDough_71 q3896 q3898 qs109 rfl (lw_all_tbl q3899) q138 (by exact pl_X3_writes) gc_X3 (by first | exact m.1 | exact m0.1 | exact m1.1 | exact m2.1 | exact m3.1 | exact m4.1 | exact m5.1 | assumption | exact g_us | (rw [g_un (by omega)]; assumption) | (rw [g_un (by omega)]; exact g_us) | (rw [g_un (by omega), g_un (by omega)]; assumption) | (rw [g_un (by omega), g_un (by omega)]; exact g_us) | (rw [g_un (by omega), g_un (by omega), g_un (by omega)]; assumption) | ((repeat (rw [g_un (by omega)])); first | exact m.1 | exact m0.1 | exact m1.1 | exact m2.1 | exact m3.1 | exact m4.1 | exact m5.1 | exact g_us | assumption)) ((k_writes (k := 46) hb m4 q4 (by omega) (by decide))) (by omega) (Nat.le_of_ble_eq_true rfl) (by omega) (by omega) rfl (Nat.le_of_ble_eq_true rfl) rfl (kV fun h71 n71 e71 => ?_) kN
      obtain ⟨⟨V5, m5, q5, v5⟩, t5, rfl⟩ := e71
      have z3 : R 1 3 ≠ 0 := fun z => by rw [z] at c65; exact c65 (Nat.le_refl _)
      refine r_aload0 dX3_renderDough_74 ?_
      refine r_callV (M' := mX3_power) _ dX3_renderDough_75 q3635 q3637 qs85 rfl (lw_all_tbl q3638) q138 (by exact pl_X3_power) gc_X3 (by first | exact m.1 | exact m0.1 | exact m1.1 | exact m2.1 | exact m3.1 | exact m4.1 | exact m5.1 | assumption | exact g_us | (rw [g_un (by omega)]; assumption) | (rw [g_un (by omega)]; exact g_us) | (rw [g_un (by omega), g_un (by omega)]; assumption) | (rw [g_un (by omega), g_un (by omega)]; exact g_us) | (rw [g_un (by omega), g_un (by omega), g_un (by omega)]; assumption) | ((repeat (rw [g_un (by omega)])); first | exact m.1 | exact m0.1 | exact m1.1 | exact m2.1 | exact m3.1 | exact m4.1 | exact m5.1 | exact g_us | assumption)) ((k_power m5 w)) (by omega) (Nat.le_of_ble_eq_true rfl) (by omega) (by omega) rfl (Nat.le_of_ble_eq_true rfl) rfl (kI fun r75 h75 n75 e75 => ?_) kN
      obtain ⟨rfl, rfl, rfl⟩ := e75
      refine r_bipush (v := nI 10) dX3_renderDough_78 (by decide) ?_
      refine r_idiv dX3_renderDough_80 (nI_ne0 (by omega) (by omega)) (by first | exact pk_div (by omega) (by omega) (by omega) | rfl) ?_
      refine r_istore2 dX3_renderDough_81 ?_
      exact loop (R 1 3) _ _ _ (by omega) (by rw [List.length_append]; show _ + 1 + _ ≤ _; omega) (by unfold txD; rw [if_neg z3]; simp) m5 q5 (((v2.tr v3).tr v4).tr v5) ((((t1.tr t2).tr t3).tr t4).tr t5)
  · rw [if_neg hp]
    refine g_Met.of (M := mX3_renderDough) (L := [some (.ref a), some (.int p), none]) (by decide +kernel) (Nat.le_of_ble_eq_true rfl) rfl ?_
    refine r_aload0 dX3_renderDough_0 ?_
    refine r_iconst (v := nI 0) dX3_renderDough_1 (by decide) ?_
    refine p_X3_1_X3 dX3_renderDough_2 (by omega) (by first | exact m.1 | exact m0.1 | exact m1.1 | exact m2.1 | exact m3.1 | exact m4.1 | exact m5.1 | assumption | exact g_us | (rw [g_un (by omega)]; assumption) | (rw [g_un (by omega)]; exact g_us) | (rw [g_un (by omega), g_un (by omega)]; assumption) | (rw [g_un (by omega), g_un (by omega)]; exact g_us) | (rw [g_un (by omega), g_un (by omega), g_un (by omega)]; assumption) | ((repeat (rw [g_un (by omega)])); first | exact m.1 | exact m0.1 | exact m1.1 | exact m2.1 | exact m3.1 | exact m4.1 | exact m5.1 | exact g_us | assumption)) ?_
    refine m.goZ (fun h0 m0 t0 => ?_)
    refine r_aload0 dX3_renderDough_5 ?_
    refine r_iload1 dX3_renderDough_6 ?_
    refine r_callV (M' := mX3_isDough) _ dX3_renderDough_7 q3524 q3526 qs64 rfl (lw_all_tbl q3527) q138 (by exact pl_X3_isDough) gc_X3 (by first | exact m.1 | exact m0.1 | exact m1.1 | exact m2.1 | exact m3.1 | exact m4.1 | exact m5.1 | assumption | exact g_us | (rw [g_un (by omega)]; assumption) | (rw [g_un (by omega)]; exact g_us) | (rw [g_un (by omega), g_un (by omega)]; assumption) | (rw [g_un (by omega), g_un (by omega)]; exact g_us) | (rw [g_un (by omega), g_un (by omega), g_un (by omega)]; assumption) | ((repeat (rw [g_un (by omega)])); first | exact m.1 | exact m0.1 | exact m1.1 | exact m2.1 | exact m3.1 | exact m4.1 | exact m5.1 | exact g_us | assumption)) ((k_isDough m0 w)) (by omega) (Nat.le_of_ble_eq_true rfl) (by omega) (by omega) rfl (Nat.le_of_ble_eq_true rfl) rfl (kI fun r7 h7 n7 e7 => ?_) kN
    obtain ⟨rfl, rfl, rfl⟩ := e7
    refine r_if_neB (tgt := 19) dX3_renderDough_10 (by decide) (fun c10 => absurd c10 hp) (fun c10 => ?_)
    refine r_aload0 dX3_renderDough_13 ?_
    refine r_iconst (v := nI 1) dX3_renderDough_14 (by decide) ?_
    refine r_callV (M' := mX3_fails) _ dX3_renderDough_15 q3489 q3491 qs57 rfl (lw_all_tbl q3492) q138 (by exact pl_X3_fails) gc_X3 (by first | exact m.1 | exact m0.1 | exact m1.1 | exact m2.1 | exact m3.1 | exact m4.1 | exact m5.1 | assumption | exact g_us | (rw [g_un (by omega)]; assumption) | (rw [g_un (by omega)]; exact g_us) | (rw [g_un (by omega), g_un (by omega)]; assumption) | (rw [g_un (by omega), g_un (by omega)]; exact g_us) | (rw [g_un (by omega), g_un (by omega), g_un (by omega)]; assumption) | ((repeat (rw [g_un (by omega)])); first | exact m.1 | exact m0.1 | exact m1.1 | exact m2.1 | exact m3.1 | exact m4.1 | exact m5.1 | exact g_us | assumption)) ((k_fails hb m0)) (by omega) (Nat.le_of_ble_eq_true rfl) (by omega) (by omega) rfl (Nat.le_of_ble_eq_true rfl) rfl (kI fun r15 h15 n15 e15 => ?_) kN
    obtain ⟨rfl, m1, t1, rfl⟩ := e15
    exact r_ireturn dX3_renderDough_18 rfl rfl (⟨mW.no (by decide) m1, t0.tr t1, rfl⟩)
theorem k_renderBowls (hb : k_b K ≤ a) (m : mS a V R A h) (w : wB u (R 1)) : g_Met K mX3_renderBowls 5 0 0 [.ref a] h n (gI fun r h' n' => mW a V R A 0 (txB (R 1) (R 1 1)) r h' ∧ mT a h h' ∧ n' = n) gN := by
  have b := w.b
  refine g_Met.of (M := mX3_renderBowls) (L := [some (.ref a), none]) (by decide +kernel) (Nat.le_of_ble_eq_true rfl) rfl ?_
  have loop : ∀ (j k : Nat) (V1 : Nat → Nat → Int32) (h1 : g_P), k + j = R 1 1 → mS a V1 R A h1 → lS V1 (txB (R 1) k) → vL (vN V) V1 → mT a h h1 → g_G K mX3_renderBowls 5 0 0 (gI fun r h' n' => mW a V R A 0 (txB (R 1) (R 1 1)) r h' ∧ mT a h h' ∧ n' = n) gN 12 [some (.ref a), some (.int (nI k))] [] h1 n := by
    intro j
    induction j with
    | zero =>
      intro k V1 h1 hk m1 q1 v1 t1
      have hk : k = R 1 1 := by omega
      subst hk
      refine r_iload1 dX3_renderBowls_12 ?_
      refine r_aload0 dX3_renderBowls_13 ?_
      refine r_iconst (v := nI 1) dX3_renderBowls_14 (by decide) ?_
      refine r_callV (M' := mX3_at) _ dX3_renderBowls_15 q3485 q3487 qs56 rfl (lw_all_tbl q3488) q138 (by exact pl_X3_at) gc_X3 (by first | exact m.1 | exact m0.1 | exact m1.1 | exact m2.1 | exact m3.1 | exact m4.1 | exact m5.1 | assumption | exact g_us | (rw [g_un (by omega)]; assumption) | (rw [g_un (by omega)]; exact g_us) | (rw [g_un (by omega), g_un (by omega)]; assumption) | (rw [g_un (by omega), g_un (by omega)]; exact g_us) | (rw [g_un (by omega), g_un (by omega), g_un (by omega)]; assumption) | ((repeat (rw [g_un (by omega)])); first | exact m.1 | exact m0.1 | exact m1.1 | exact m2.1 | exact m3.1 | exact m4.1 | exact m5.1 | exact g_us | assumption)) ((k_at m1 (by decide) (by decide))) (by omega) (Nat.le_of_ble_eq_true rfl) (by omega) (by omega) rfl (Nat.le_of_ble_eq_true rfl) rfl (kI fun r15 h15 n15 e15 => ?_) kN
      obtain ⟨rfl, rfl, rfl⟩ := e15
      refine r_icmp_geN (tgt := 53) dX3_renderBowls_18 (by decide) (by omega) (by omega) (fun c18 => ?_) (fun c18 => absurd c18 (by omega))
      refine r_aload0 dX3_renderBowls_53 ?_
      refine f_X3_260_X3 dX3_renderBowls_54 m1.1 ?_
      exact r_ireturn dX3_renderBowls_57 rfl rfl (⟨mW.yes rfl m1 q1 v1 rfl, t1, rfl⟩)
    | succ j ih =>
      intro k V1 h1 hk m1 q1 v1 t1
      have o := w.o (k := k) (by omega)
      have g := txB_len w (k := k) (by omega)
      have n1 := ndg_s (v := R 1 (23 + 2 * k)) (m := 3) (by omega) (by decide)
      have n2 := ndg_s (v := R 1 (22 + 2 * k)) (m := 3) (by omega) (by decide)
      have tail : ∀ (s1 : List Nat) (V2 : Nat → Nat → Int32) (h2 : g_P), s1 = txB (R 1) k ++ (if 0 < k then [32] else []) → mS a V2 R A h2 → lS V2 s1 → vL (vN V) V2 → mT a h h2 → g_G K mX3_renderBowls 5 0 0 (gI fun r h' n' => mW a V R A 0 (txB (R 1) (R 1 1)) r h' ∧ mT a h h' ∧ n' = n) gN 31 [some (.ref a), some (.int (nI k))] [] h2 n := by
        intro s1 V2 h2 hs m2 q2 v2 t2
        have g5 : (if 0 < k then [32] else [] : List Nat).length ≤ 1 := by split <;> decide
        have g6 : s1.length ≤ 10 * k + 1 := by rw [hs, List.length_append]; omega
        refine r_aload0 dX3_renderBowls_31 ?_
        refine r_aload0 dX3_renderBowls_32 ?_
        refine r_iload1 dX3_renderBowls_33 ?_
        refine r_iconst (v := nI 1) dX3_renderBowls_34 (by decide) ?_
        refine r_callV (M' := mX3_bowl) _ dX3_renderBowls_35 q3596 q3598 qs78 rfl (lw_all_tbl q3599) q138 (by exact pl_X3_bowl) gc_X3 (by first | exact m.1 | exact m0.1 | exact m1.1 | exact m2.1 | exact m3.1 | exact m4.1 | exact m5.1 | assumption | exact g_us | (rw [g_un (by omega)]; assumption) | (rw [g_un (by omega)]; exact g_us) | (rw [g_un (by omega), g_un (by omega)]; assumption) | (rw [g_un (by omega), g_un (by omega)]; exact g_us) | (rw [g_un (by omega), g_un (by omega), g_un (by omega)]; assumption) | ((repeat (rw [g_un (by omega)])); first | exact m.1 | exact m0.1 | exact m1.1 | exact m2.1 | exact m3.1 | exact m4.1 | exact m5.1 | exact g_us | assumption)) ((k_bowl m2 (by omega) (by decide))) (by omega) (Nat.le_of_ble_eq_true rfl) (by omega) (by omega) rfl (Nat.le_of_ble_eq_true rfl) rfl (kI fun r35 h35 n35 e35 => ?_) kN
        obtain ⟨rfl, rfl, rfl⟩ := e35
        rw [show 22 + 2 * k + 1 = 23 + 2 * k by omega]
        refine r_aload0 dX3_renderBowls_38 ?_
        refine r_iload1 dX3_renderBowls_39 ?_
        refine r_iconst (v := nI 0) dX3_renderBowls_40 (by decide) ?_
        refine r_callV (M' := mX3_bowl) _ dX3_renderBowls_41 q3596 q3598 qs78 rfl (lw_all_tbl q3599) q138 (by exact pl_X3_bowl) gc_X3 (by first | exact m.1 | exact m0.1 | exact m1.1 | exact m2.1 | exact m3.1 | exact m4.1 | exact m5.1 | assumption | exact g_us | (rw [g_un (by omega)]; assumption) | (rw [g_un (by omega)]; exact g_us) | (rw [g_un (by omega), g_un (by omega)]; assumption) | (rw [g_un (by omega), g_un (by omega)]; exact g_us) | (rw [g_un (by omega), g_un (by omega), g_un (by omega)]; assumption) | ((repeat (rw [g_un (by omega)])); first | exact m.1 | exact m0.1 | exact m1.1 | exact m2.1 | exact m3.1 | exact m4.1 | exact m5.1 | exact g_us | assumption)) ((k_bowl m2 (by omega) (by decide))) (by omega) (Nat.le_of_ble_eq_true rfl) (by omega) (by omega) rfl (Nat.le_of_ble_eq_true rfl) rfl (kI fun r41 h41 n41 e41 => ?_) kN
        obtain ⟨rfl, rfl, rfl⟩ := e41
        rw [show 22 + 2 * k + 0 = 22 + 2 * k from rfl]
        refine r_callV (M' := mX3_writesTwo) _ dX3_renderBowls_44 q3888 q3890 qs107 rfl (lw_all_tbl q3891) q138 (by exact pl_X3_writesTwo) gc_X3 (by first | exact m.1 | exact m0.1 | exact m1.1 | exact m2.1 | exact m3.1 | exact m4.1 | exact m5.1 | assumption | exact g_us | (rw [g_un (by omega)]; assumption) | (rw [g_un (by omega)]; exact g_us) | (rw [g_un (by omega), g_un (by omega)]; assumption) | (rw [g_un (by omega), g_un (by omega)]; exact g_us) | (rw [g_un (by omega), g_un (by omega), g_un (by omega)]; assumption) | ((repeat (rw [g_un (by omega)])); first | exact m.1 | exact m0.1 | exact m1.1 | exact m2.1 | exact m3.1 | exact m4.1 | exact m5.1 | exact g_us | assumption)) ((k_writesTwo hb m2 q2 (by omega) (by omega) (by omega))) (by omega) (Nat.le_of_ble_eq_true rfl) (by omega) (by omega) rfl (Nat.le_of_ble_eq_true rfl) rfl (kV fun h44 n44 e44 => ?_) kN
        obtain ⟨⟨V3, m3, q3, v3⟩, t3, rfl⟩ := e44
        refine r_iinc1 dX3_renderBowls_47 (ii1 _) ?_
        refine r_goto (tgt := 12) dX3_renderBowls_50 (by decide) ?_
        exact ih (k + 1) V3 _ (by omega) m3 (by rw [hs, List.append_assoc] at q3; exact q3) (v2.tr v3) (t2.tr t3)
      refine r_iload1 dX3_renderBowls_12 ?_
      refine r_aload0 dX3_renderBowls_13 ?_
      refine r_iconst (v := nI 1) dX3_renderBowls_14 (by decide) ?_
      refine r_callV (M' := mX3_at) _ dX3_renderBowls_15 q3485 q3487 qs56 rfl (lw_all_tbl q3488) q138 (by exact pl_X3_at) gc_X3 (by first | exact m.1 | exact m0.1 | exact m1.1 | exact m2.1 | exact m3.1 | exact m4.1 | exact m5.1 | assumption | exact g_us | (rw [g_un (by omega)]; assumption) | (rw [g_un (by omega)]; exact g_us) | (rw [g_un (by omega), g_un (by omega)]; assumption) | (rw [g_un (by omega), g_un (by omega)]; exact g_us) | (rw [g_un (by omega), g_un (by omega), g_un (by omega)]; assumption) | ((repeat (rw [g_un (by omega)])); first | exact m.1 | exact m0.1 | exact m1.1 | exact m2.1 | exact m3.1 | exact m4.1 | exact m5.1 | exact g_us | assumption)) ((k_at m1 (by decide) (by decide))) (by omega) (Nat.le_of_ble_eq_true rfl) (by omega) (by omega) rfl (Nat.le_of_ble_eq_true rfl) rfl (kI fun r15 h15 n15 e15 => ?_) kN
      obtain ⟨rfl, rfl, rfl⟩ := e15
      refine r_icmp_geN (tgt := 53) dX3_renderBowls_18 (by decide) (by omega) (by omega) (fun c18 => absurd c18 (by omega)) (fun c18 => ?_)
      refine r_iload1 dX3_renderBowls_21 ?_
      refine r_if_leN (tgt := 31) dX3_renderBowls_22 (by decide) (by omega) (fun c22 => ?_) (fun c22 => ?_)
      · exact tail _ V1 _ (by rw [if_neg (by omega), List.append_nil]) m1 q1 v1 t1
      · refine r_aload0 dX3_renderBowls_25 ?_
        refine r_bipush (v := nI 32) dX3_renderBowls_26 (by decide) ?_
        refine r_callV (M' := mX3_writes) _ dX3_renderBowls_28 q3896 q3898 qs109 rfl (lw_all_tbl q3899) q138 (by exact pl_X3_writes) gc_X3 (by first | exact m.1 | exact m0.1 | exact m1.1 | exact m2.1 | exact m3.1 | exact m4.1 | exact m5.1 | assumption | exact g_us | (rw [g_un (by omega)]; assumption) | (rw [g_un (by omega)]; exact g_us) | (rw [g_un (by omega), g_un (by omega)]; assumption) | (rw [g_un (by omega), g_un (by omega)]; exact g_us) | (rw [g_un (by omega), g_un (by omega), g_un (by omega)]; assumption) | ((repeat (rw [g_un (by omega)])); first | exact m.1 | exact m0.1 | exact m1.1 | exact m2.1 | exact m3.1 | exact m4.1 | exact m5.1 | exact g_us | assumption)) ((k_writes (k := 32) hb m1 q1 (by omega) (by decide))) (by omega) (Nat.le_of_ble_eq_true rfl) (by omega) (by omega) rfl (Nat.le_of_ble_eq_true rfl) rfl (kV fun h28 n28 e28 => ?_) kN
        obtain ⟨⟨V2, m2, q2, v2⟩, t2, rfl⟩ := e28
        exact tail _ V2 _ (by rw [if_pos (by omega)]) m2 q2 (v1.tr v2) (t1.tr t2)
  refine r_aload0 dX3_renderBowls_0 ?_
  refine r_iconst (v := nI 0) dX3_renderBowls_1 (by decide) ?_
  refine p_X3_1_X3 dX3_renderBowls_2 (by omega) (by first | exact m.1 | exact m0.1 | exact m1.1 | exact m2.1 | exact m3.1 | exact m4.1 | exact m5.1 | assumption | exact g_us | (rw [g_un (by omega)]; assumption) | (rw [g_un (by omega)]; exact g_us) | (rw [g_un (by omega), g_un (by omega)]; assumption) | (rw [g_un (by omega), g_un (by omega)]; exact g_us) | (rw [g_un (by omega), g_un (by omega), g_un (by omega)]; assumption) | ((repeat (rw [g_un (by omega)])); first | exact m.1 | exact m0.1 | exact m1.1 | exact m2.1 | exact m3.1 | exact m4.1 | exact m5.1 | exact g_us | assumption)) ?_
  refine m.goZ (fun h0 m0 t0 => ?_)
  refine r_aload0 dX3_renderBowls_5 ?_
  refine r_iconst (v := nI 0) dX3_renderBowls_6 (by decide) ?_
  refine p_X3_260_X3 dX3_renderBowls_7 (by omega) (by first | exact m.1 | exact m0.1 | exact m1.1 | exact m2.1 | exact m3.1 | exact m4.1 | exact m5.1 | assumption | exact g_us | (rw [g_un (by omega)]; assumption) | (rw [g_un (by omega)]; exact g_us) | (rw [g_un (by omega), g_un (by omega)]; assumption) | (rw [g_un (by omega), g_un (by omega)]; exact g_us) | (rw [g_un (by omega), g_un (by omega), g_un (by omega)]; assumption) | ((repeat (rw [g_un (by omega)])); first | exact m.1 | exact m0.1 | exact m1.1 | exact m2.1 | exact m3.1 | exact m4.1 | exact m5.1 | exact g_us | assumption)) ?_
  have m1 : mS a (vN V) R A _ := m0.oo (i := fup (vZ V 0) 13 (nI 0)) rfl
  refine r_iconst (v := nI 0) dX3_renderBowls_10 (by decide) ?_
  refine r_istore1 dX3_renderBowls_11 ?_
  exact loop (R 1 1) 0 _ _ (by omega) m1 vN_l vL.rf (t0.tr (mT.up (k := 0) (by decide)))
theorem k_outputAt {p : Int32} {s : List Nat} (hb : k_b K ≤ a) (m : mS a V R A h) (hs : lS V s) : g_Met K mX3_outputAt 2 0 0 [.ref a, .int p] h n (gI fun r h' n' => mQ a V R A (if ix p s.length then 0 else 1) (s.getD (tN p) 0) r h' ∧ mT a h h' ∧ n' = n) gN := by
  have hl := hs.2.1
  refine g_Met.of (M := mX3_outputAt) (L := [some (.ref a), some (.int p)]) (by decide +kernel) (Nat.le_of_ble_eq_true rfl) rfl ?_
  refine r_aload0 dX3_outputAt_0 ?_
  refine r_iconst (v := nI 0) dX3_outputAt_1 (by decide) ?_
  refine p_X3_1_X3 dX3_outputAt_2 (by omega) (by first | exact m.1 | exact m0.1 | exact m1.1 | exact m2.1 | exact m3.1 | exact m4.1 | exact m5.1 | assumption | exact g_us | (rw [g_un (by omega)]; assumption) | (rw [g_un (by omega)]; exact g_us) | (rw [g_un (by omega), g_un (by omega)]; assumption) | (rw [g_un (by omega), g_un (by omega)]; exact g_us) | (rw [g_un (by omega), g_un (by omega), g_un (by omega)]; assumption) | ((repeat (rw [g_un (by omega)])); first | exact m.1 | exact m0.1 | exact m1.1 | exact m2.1 | exact m3.1 | exact m4.1 | exact m5.1 | exact g_us | assumption)) ?_
  refine m.goZ (fun h0 m0 t0 => ?_)
  refine r_iload1 dX3_outputAt_5 ?_
  refine r_iconst (v := nI 0) dX3_outputAt_6 (by decide) ?_
  refine r_aload0 dX3_outputAt_7 ?_
  refine f_X3_260_X3 dX3_outputAt_8 m0.1 ?_
  refine r_iconst (v := nI 1) dX3_outputAt_11 (by decide) ?_
  refine r_isub dX3_outputAt_12 (by first | exact pk_sub (by omega) | rfl) ?_
  refine r_callS (M' := mX3_isBetween) _ dX3_outputAt_13 q3482 q3483 rfl (lw_all_tbl q3484) q138 (by exact pl_X3_isBetween)  ((k_ix (k := s.length) (by omega) (by rw [vZ_n (by decide), hs.1]))) (by omega) (Nat.le_of_ble_eq_true rfl) (by omega) (by omega) rfl (Nat.le_of_ble_eq_true rfl) rfl (kI fun r13 h13 n13 e13 => ?_) kN
  obtain ⟨rfl, rfl, rfl⟩ := e13
  refine r_if_eqB (tgt := 26) dX3_outputAt_16 (by decide) (fun c16 => ?_) (fun c16 => ?_)
  · refine r_aload0 dX3_outputAt_26 ?_
    refine r_iconst (v := nI 1) dX3_outputAt_27 (by decide) ?_
    refine r_callV (M' := mX3_fails) _ dX3_outputAt_28 q3489 q3491 qs57 rfl (lw_all_tbl q3492) q138 (by exact pl_X3_fails) gc_X3 (by first | exact m.1 | exact m0.1 | exact m1.1 | exact m2.1 | exact m3.1 | exact m4.1 | exact m5.1 | assumption | exact g_us | (rw [g_un (by omega)]; assumption) | (rw [g_un (by omega)]; exact g_us) | (rw [g_un (by omega), g_un (by omega)]; assumption) | (rw [g_un (by omega), g_un (by omega)]; exact g_us) | (rw [g_un (by omega), g_un (by omega), g_un (by omega)]; assumption) | ((repeat (rw [g_un (by omega)])); first | exact m.1 | exact m0.1 | exact m1.1 | exact m2.1 | exact m3.1 | exact m4.1 | exact m5.1 | exact g_us | assumption)) ((k_fails hb m0)) (by omega) (Nat.le_of_ble_eq_true rfl) (by omega) (by omega) rfl (Nat.le_of_ble_eq_true rfl) rfl (kI fun r28 h28 n28 e28 => ?_) kN
    obtain ⟨rfl, m1, t1, rfl⟩ := e28
    refine r_i2c dX3_outputAt_31 (show _ = nI 0 from i2c_nI (by decide)) ?_
    exact r_ireturn dX3_outputAt_32 rfl rfl (⟨by rw [if_neg c16]; exact mQ.no (by decide) m1, t0.tr t1, rfl⟩)
  · obtain ⟨i, hi, rfl, ti⟩ := ix_ex c16
    have hx : s.getD i 0 < 65536 := by rw [List.getD_eq_getElem?_getD, List.getElem?_eq_getElem hi]; exact hs.2.2.2 _ (List.getElem_mem _)
    refine r_aload0 dX3_outputAt_19 ?_
    refine f_X3_30_X3 dX3_outputAt_20 m0.1 ?_
    refine r_iload1 dX3_outputAt_23 ?_
    refine r_caload (i) dX3_outputAt_24 m0.li rfl (by omega) (by rw [aI_at (by omega), vZ_c (by decide), hs.2.2.1 i hi]) ?_
    exact r_ireturn dX3_outputAt_25 rfl (pk_charN hx).1 (⟨by rw [if_pos c16, ti]; exact mQ.z rfl rfl m0, t0, rfl⟩)
/-- the typed text -/
def tS (V : Nat → Nat → Int32) (s : List Nat) : Prop := sS (V 7) (V 0 15) s ∧ ∀ x, x ∈ s → 32 ≤ x ∧ x ≤ 126
def eTy (s : List Nat) (k : Nat) : Nat := if ¬ (32 ≤ k ∧ k ≤ 126) then 1 else if s.length = 60 then 2 else 0
theorem mS.xt (m : mS a V R A h) : h (a + 7) = some (g_ar 3 (aI 60 (V 7))) := m.2.2.2.2.2.2.2.1
theorem k_type {k : Nat} {s : List Nat} (hb : k_b K ≤ a) (m : mS a V R A h) (hs : tS V s) (hk : k < 65536) : g_Met K mX3_type 2 0 0 [.ref a, .int (nI k)] h n (gI fun r h' n' => (∃ V', mS a V' R A h' ∧ V' 0 0 = nI (eTy s k) ∧ (eTy s k ≠ 0 → vE V V') ∧ (eTy s k = 0 → r = nI (s.length + 1) ∧ tS V' (s ++ [k]) ∧ (∀ i, i ∈ [5, 6, 7, 13, 17, 18, 19] → V' 0 i = V 0 i) ∧ V' 6 = V 6)) ∧ mT a h h' ∧ n' = n) gN := by
  have hl := hs.1.2.1
  refine g_Met.of (M := mX3_type) (L := [some (.ref a), some (.int (nI k))]) (by decide +kernel) (Nat.le_of_ble_eq_true rfl) rfl ?_
  refine r_aload0 dX3_type_0 ?_
  refine r_iconst (v := nI 0) dX3_type_1 (by decide) ?_
  refine p_X3_1_X3 dX3_type_2 (by omega) (by first | exact m.1 | exact m0.1 | exact m1.1 | exact m2.1 | exact m3.1 | exact m4.1 | exact m5.1 | assumption | exact g_us | (rw [g_un (by omega)]; assumption) | (rw [g_un (by omega)]; exact g_us) | (rw [g_un (by omega), g_un (by omega)]; assumption) | (rw [g_un (by omega), g_un (by omega)]; exact g_us) | (rw [g_un (by omega), g_un (by omega), g_un (by omega)]; assumption) | ((repeat (rw [g_un (by omega)])); first | exact m.1 | exact m0.1 | exact m1.1 | exact m2.1 | exact m3.1 | exact m4.1 | exact m5.1 | exact g_us | assumption)) ?_
  refine m.goZ (fun h0 m0 t0 => ?_)
  refine r_iload1 dX3_type_5 ?_
  refine r_bipush (v := nI 32) dX3_type_6 (by decide) ?_
  refine r_bipush (v := nI 126) dX3_type_8 (by decide) ?_
  refine r_callS (M' := mX3_isBetween) _ dX3_type_10 q3482 q3483 rfl (lw_all_tbl q3484) q138 (by exact pl_X3_isBetween)  ((k_bt (by decide) (by decide))) (by omega) (Nat.le_of_ble_eq_true rfl) (by omega) (by omega) rfl (Nat.le_of_ble_eq_true rfl) rfl (kI fun r10 h10 n10 e10 => ?_) kN
  obtain ⟨rfl, rfl, rfl⟩ := e10
  refine r_if_neB (tgt := 22) dX3_type_13 (by decide) (fun c13 => ?_) (fun c13 => ?_)
  · rw [bt_nI (by omega)] at c13
    refine r_aload0 dX3_type_22 ?_
    refine f_X3_274_X3 dX3_type_23 m0.1 ?_
    refine r_bipush (v := nI 60) dX3_type_26 (by decide) ?_
    rw [vZ_n (by decide), hs.1.1]
    refine r_icmp_neN (tgt := 37) dX3_type_28 (by decide) (by omega) (by omega) (fun c28 => ?_) (fun c28 => ?_)
    · refine r_aload0 dX3_type_37 ?_
      refine f_X3_34_X3 dX3_type_38 m0.1 ?_
      refine r_aload0 dX3_type_41 ?_
      refine f_X3_274_X3 dX3_type_42 m0.1 ?_
      refine r_iload1 dX3_type_45 ?_
      rw [vZ_n (by decide), hs.1.1]
      refine r_castore (s.length) dX3_type_46 (by omega) m0.xt rfl (by omega) (by rw [aI_len]; omega) (pk_charN hk).1 ?_
      refine m0.goX (fun h1 m1 t1 => ?_)
      refine r_aload0 dX3_type_47 ?_
      refine r_dup dX3_type_48 ?_
      refine f_X3_274_X3 dX3_type_49 m1.1 ?_
      refine r_iconst (v := nI 1) dX3_type_52 (by decide) ?_
      refine r_iadd dX3_type_53 (show _ = nI (s.length + 1) by rw [up1_n (by decide), vZ_n (by decide), hs.1.1]; exact nI_add _ _) ?_
      refine p_X3_274_X3 dX3_type_54 (by omega) m1.1 ?_
      have m2 := m1.oo (i := fup (up1 (vZ V) 7 (fup (vZ V 7) s.length (nI k)) 0) 15 (nI (s.length + 1))) rfl
      have e : eTy s k = 0 := by unfold eTy; rw [if_neg (fun z => z c13), if_neg c28]
      refine r_aload0 dX3_type_57 ?_
      refine f_X3_274_X3 dX3_type_58 m2.1 ?_
      exact r_ireturn dX3_type_61 rfl rfl (⟨by
            rw [e]
            refine ⟨_, m2, by rw [up1_s, fup_n (by decide), up1_n (by decide), vZ_0], fun z => absurd rfl z, fun _ => ⟨by rw [up1_s, fup_s], ⟨?_, ?_⟩, ?_, by rw [up1_n (by decide), up1_n (by decide), vZ_c (by decide)]⟩⟩
            · rw [up1_n (by decide), up1_s, up1_s, fup_s, vZ_c (by decide)]
              exact hs.1.push (by omega) hk rfl
            · intro x hx
              rcases List.mem_append.mp hx with z | z
              · exact hs.2 x z
              · rw [List.mem_singleton.mp z]; exact c13
            · intro i hi
              have q : i ≠ 15 ∧ i ≠ 0 := by
                simp only [List.mem_cons, List.not_mem_nil, or_false] at hi
                omega
              rw [up1_s, fup_n q.1, up1_n (by decide), vZ_n q.2], (t0.tr t1).tr (mT.up (k := 0) (by omega)), rfl⟩)
    · refine r_aload0 dX3_type_31 ?_
      refine r_iconst (v := nI 2) dX3_type_32 (by decide) ?_
      refine r_callV (M' := mX3_fails) _ dX3_type_33 q3489 q3491 qs57 rfl (lw_all_tbl q3492) q138 (by exact pl_X3_fails) gc_X3 (by first | exact m.1 | exact m0.1 | exact m1.1 | exact m2.1 | exact m3.1 | exact m4.1 | exact m5.1 | assumption | exact g_us | (rw [g_un (by omega)]; assumption) | (rw [g_un (by omega)]; exact g_us) | (rw [g_un (by omega), g_un (by omega)]; assumption) | (rw [g_un (by omega), g_un (by omega)]; exact g_us) | (rw [g_un (by omega), g_un (by omega), g_un (by omega)]; assumption) | ((repeat (rw [g_un (by omega)])); first | exact m.1 | exact m0.1 | exact m1.1 | exact m2.1 | exact m3.1 | exact m4.1 | exact m5.1 | exact g_us | assumption)) ((k_fails hb m0)) (by omega) (Nat.le_of_ble_eq_true rfl) (by omega) (by omega) rfl (Nat.le_of_ble_eq_true rfl) rfl (kI fun r33 h33 n33 e33 => ?_) kN
      obtain ⟨rfl, m1, t1, rfl⟩ := e33
      have e : eTy s k = 2 := by unfold eTy; rw [if_neg (fun z => z c13), if_pos c28]
      exact r_ireturn dX3_type_36 rfl rfl (⟨by rw [e]; obtain ⟨V', x1, x2, x3⟩ := m1.fz; exact ⟨V', x1, x2, fun _ => x3, fun z => absurd z (by decide)⟩, t0.tr t1, rfl⟩)
  · refine r_aload0 dX3_type_16 ?_
    refine r_iconst (v := nI 1) dX3_type_17 (by decide) ?_
    refine r_callV (M' := mX3_fails) _ dX3_type_18 q3489 q3491 qs57 rfl (lw_all_tbl q3492) q138 (by exact pl_X3_fails) gc_X3 (by first | exact m.1 | exact m0.1 | exact m1.1 | exact m2.1 | exact m3.1 | exact m4.1 | exact m5.1 | assumption | exact g_us | (rw [g_un (by omega)]; assumption) | (rw [g_un (by omega)]; exact g_us) | (rw [g_un (by omega), g_un (by omega)]; assumption) | (rw [g_un (by omega), g_un (by omega)]; exact g_us) | (rw [g_un (by omega), g_un (by omega), g_un (by omega)]; assumption) | ((repeat (rw [g_un (by omega)])); first | exact m.1 | exact m0.1 | exact m1.1 | exact m2.1 | exact m3.1 | exact m4.1 | exact m5.1 | exact g_us | assumption)) ((k_fails hb m0)) (by omega) (Nat.le_of_ble_eq_true rfl) (by omega) (by omega) rfl (Nat.le_of_ble_eq_true rfl) rfl (kI fun r18 h18 n18 e18 => ?_) kN
    obtain ⟨rfl, m1, t1, rfl⟩ := e18
    rw [bt_nI (by omega)] at c13
    have e : eTy s k = 1 := if_pos c13
    exact r_ireturn dX3_type_21 rfl rfl (⟨by rw [e]; obtain ⟨V', x1, x2, x3⟩ := m1.fz; exact ⟨V', x1, x2, fun _ => x3, fun z => absurd z (by decide)⟩, t0.tr t1, rfl⟩)
end
