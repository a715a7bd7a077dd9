/-! the reference's runScript -/
set_option maxRecDepth 100000
theorem up1_comm {α : Type} {Y : Nat → Nat → α} {c d : Nat} {f g : Nat → α} (h : c ≠ d) : up1 (up1 Y c f) d g = up1 (up1 Y d g) c f := by
  funext q
  by_cases h1 : q = d
  · subst h1
    rw [up1_s, up1_n (Ne.symm h), up1_s]
  · rw [up1_n h1]
    by_cases h2 : q = c
    · subst h2
      rw [up1_s, up1_s]
    · rw [up1_n h2, up1_n h2, up1_n h1]
theorem nI_sur (x : Int32) : ∃ k : Nat, x = nI k := ⟨x.toBitVec.toNat, by
  apply Int32.toBitVec_inj.mp
  show x.toBitVec = BitVec.ofNat 32 x.toBitVec.toNat
  simp⟩
/-- what is left of 'runScript' -/
def pR (a : Nat) (V : Nat → Nat → Int32) (R : Nat → Nat → Nat) (A : Nat → Nat → Int64) (c f : Nat) (t : List Nat) (r : Int32) (h' : g_P) : Prop :=
  ((pA t (t.length + 1) (0, fun _ => 0)).1 = false → ∃ V', mS a V' R A h' ∧ V' 0 0 = nI 1 ∧ V' 0 17 = nI (pA t (t.length + 1) (0, fun _ => 0)).2.1 ∧ V' 0 15 = nI 0 ∧ (∀ j, j ∈ [5, 6, 7, 13, 18, 19] → V' 0 j = V 0 j) ∧ V' 6 = V 6) ∧
  ((pA t (t.length + 1) (0, fun _ => 0)).1 = true → (exA t (t.length + 1) (0, fun _ => 0) 0 (R 1) (A 1)).1 ≠ 0 → ∃ V', mS a V' (up1 R 4 (R 1)) (up1 A 4 (A 1)) h' ∧ V' 0 0 = nI 2 ∧ V' 0 18 = nI (exA t (t.length + 1) (0, fun _ => 0) 0 (R 1) (A 1)).2.1 ∧ V' 0 19 = nI (exA t (t.length + 1) (0, fun _ => 0) 0 (R 1) (A 1)).1 ∧ V' 0 15 = nI 0 ∧ (∀ j, j ∈ [5, 6, 7, 13, 17] → V' 0 j = V 0 j) ∧ V' 6 = V 6) ∧
  ((pA t (t.length + 1) (0, fun _ => 0)).1 = true → (exA t (t.length + 1) (0, fun _ => 0) 0 (R 1) (A 1)).1 = 0 → r = nI (exA t (t.length + 1) (0, fun _ => 0) 0 (R 1) (A 1)).2.1 ∧ ∃ V', mS a V' (up1 (rR R c f) 1 (exA t (t.length + 1) (0, fun _ => 0) 0 (R 1) (A 1)).2.2.1) (up1 (rR A c f) 1 (exA t (t.length + 1) (0, fun _ => 0) 0 (R 1) (A 1)).2.2.2) h' ∧ V' 0 0 = nI 0 ∧ V' 0 5 = nI (rgc c + 1) ∧ V' 0 6 = nI (rgf c f) ∧ V' 0 15 = nI 0 ∧ (∀ j, j ∈ [7, 13, 17, 18, 19] → V' 0 j = V 0 j) ∧ V' 6 = V 6)
section
variable {K : g_K} {a n i u c f : Nat} {V V0 : Nat → Nat → Int32} {R : Nat → Nat → Nat} {A : Nat → Nat → Int64} {h : g_P} {t : List Nat} {N : Nat → Nat}
theorem k_runScript (hb : k_b K ≤ a) (m : mS a V R A h) (w : wB u (R 1)) (hu : u + 61 ≤ 20000) (ht : tS V t) (hc : V 0 5 = nI c) (hf : V 0 6 = nI f) (hc8 : c ≤ 8) (hf8 : f < 8) : g_Met K mX3_runScript 10 0 0 [.ref a] h n (gI fun r h' n' => pR a V R A c f t r h' ∧ mT a h h' ∧ n' = n) gN := by
  obtain ⟨N0, hN0⟩ := nI_sur (V 8 0)
  obtain ⟨N1, hN1⟩ := nI_sur (V 8 1)
  obtain ⟨N, hN⟩ : ∃ N : Nat → Nat, ∀ j, j < 2 → V 8 j = nI (N j) := ⟨fun j => if j = 0 then N0 else N1, fun j hj => by
    by_cases z : j = 0
    · subst z; exact hN0
    · show V 8 j = nI (if j = 0 then N0 else N1)
      rw [if_neg z, show j = 1 by omega]; exact hN1⟩
  have tz : tS (vZ V) t := ⟨by rw [vZ_c (by decide), vZ_n (by decide)]; exact ht.1, ht.2⟩
  refine g_Met.of (M := mX3_runScript) (L := [some (.ref a), none]) (by decide +kernel) (Nat.le_of_ble_eq_true rfl) rfl ?_
  refine r_aload0 dX3_runScript_0 ?_
  refine r_iconst (v := nI 0) dX3_runScript_1 (by decide) ?_
  refine p_X3_1_X3 dX3_runScript_2 (by omega) (by first | exact m.1 | exact m0.1 | exact m1.1 | exact m2.1 | exact m3.1 | assumption | exact g_us | (rw [g_un (by omega)]; assumption) | (rw [g_un (by omega)]; exact g_us) | (rw [g_un (by omega), g_un (by omega)]; assumption) | (rw [g_un (by omega), g_un (by omega)]; exact g_us) | (rw [g_un (by omega), g_un (by omega), g_un (by omega)]; assumption) | ((repeat (rw [g_un (by omega)])); first | exact m.1 | exact m0.1 | exact m1.1 | exact m2.1 | exact m3.1 | exact g_us | assumption)) ?_
  refine m.goZ (fun h0 m0 t0 => ?_)
  refine r_aload0 dX3_runScript_5 ?_
  refine r_callV (M' := mX3_readsAll) _ dX3_runScript_6 q3916 q3918 qs110 rfl (lw_all_tbl q3919) q138 (by exact pl_X3_readsAll) gc_X3 (by first | exact m.1 | exact m0.1 | exact m1.1 | exact m2.1 | exact m3.1 | assumption | exact g_us | (rw [g_un (by omega)]; assumption) | (rw [g_un (by omega)]; exact g_us) | (rw [g_un (by omega), g_un (by omega)]; assumption) | (rw [g_un (by omega), g_un (by omega)]; exact g_us) | (rw [g_un (by omega), g_un (by omega), g_un (by omega)]; assumption) | ((repeat (rw [g_un (by omega)])); first | exact m.1 | exact m0.1 | exact m1.1 | exact m2.1 | exact m3.1 | exact g_us | assumption)) ((k_readsAll hb m0 tz (fun j hj => by rw [vZ_c (by decide)]; exact hN j hj))) (by omega) (Nat.le_of_ble_eq_true rfl) (by omega) (by omega) rfl (Nat.le_of_ble_eq_true rfl) rfl (kI fun r6 h6 n6 e6 => ?_) kN
  obtain ⟨⟨V1, so1, rfl, m1, q1⟩, t1, rfl⟩ := e6
  have z1 := pA_i (t := t) (t.length + 1) 0 N (fun _ => 0)
  have v1 : vE V V1 := vE.z.tr q1.2.2.2.2.2.1
  have v0 : V1 0 0 = nI 0 := q1.2.2.2.2.2.2.1.trans vZ_0
  refine r_if_neB (tgt := 31) dX3_runScript_9 (by decide) (fun c9 => ?_) (fun c9 => ?_)
  · have c9' := z1.1.symm.trans c9
    have hN2 := q1.2.2.2.1
    have hp2 := (pA_i (t := t) (t.length + 1) 0 (pA t (t.length + 1) (0, N)).2.2 (fun _ => 0)).1.trans c9'
    have ex2 := exA_i (t := t) (t.length + 1) 0 0 (pA t (t.length + 1) (0, N)).2.2 (fun _ => 0) (R 1) (A 1) hp2
    refine r_aload0 dX3_runScript_31 ?_
    refine r_callV (M' := mX3_copies) _ dX3_runScript_32 q3497 q3499 qs59 rfl (lw_all_tbl q3500) q138 (by exact pl_X3_copies) gc_X3 (by first | exact m.1 | exact m0.1 | exact m1.1 | exact m2.1 | exact m3.1 | assumption | exact g_us | (rw [g_un (by omega)]; assumption) | (rw [g_un (by omega)]; exact g_us) | (rw [g_un (by omega), g_un (by omega)]; assumption) | (rw [g_un (by omega), g_un (by omega)]; exact g_us) | (rw [g_un (by omega), g_un (by omega), g_un (by omega)]; assumption) | ((repeat (rw [g_un (by omega)])); first | exact m.1 | exact m0.1 | exact m1.1 | exact m2.1 | exact m3.1 | exact g_us | assumption)) ((k_copies hb m1)) (by omega) (Nat.le_of_ble_eq_true rfl) (by omega) (by omega) rfl (Nat.le_of_ble_eq_true rfl) rfl (kV fun h32 n32 e32 => ?_) kN
    obtain ⟨m2, t2, rfl⟩ := e32
    refine r_aload0 dX3_runScript_35 ?_
    refine r_callV (M' := mX3_doesAll) _ dX3_runScript_36 q3956 q3958 qs120 rfl (lw_all_tbl q3959) q138 (by exact pl_X3_doesAll) gc_X3 (by first | exact m.1 | exact m0.1 | exact m1.1 | exact m2.1 | exact m3.1 | assumption | exact g_us | (rw [g_un (by omega)]; assumption) | (rw [g_un (by omega)]; exact g_us) | (rw [g_un (by omega), g_un (by omega)]; assumption) | (rw [g_un (by omega), g_un (by omega)]; exact g_us) | (rw [g_un (by omega), g_un (by omega), g_un (by omega)]; assumption) | ((repeat (rw [g_un (by omega)])); first | exact m.1 | exact m0.1 | exact m1.1 | exact m2.1 | exact m3.1 | exact g_us | assumption)) ((k_doesAll hb m2 (by rw [up1_n (by decide)]; exact w) hu q1.1 hN2 hp2)) (by omega) (Nat.le_of_ble_eq_true rfl) (by omega) (by omega) rfl (Nat.le_of_ble_eq_true rfl) rfl (kI fun r36 h36 n36 e36 => ?_) kN
    obtain ⟨⟨V3, rfl, m3, x1, x2, x3, x4, x5, x6⟩, t3, rfl⟩ := e36
    rw [up1_n (Y := R) (by decide), up1_n (Y := A) (by decide), ex2] at m3 x1 x6
    rw [up1_n (Y := R) (by decide), up1_n (Y := A) (by decide), ex2]
    refine r_istore1 dX3_runScript_39 ?_
    refine r_aload0 dX3_runScript_40 ?_
    refine r_iconst (v := nI 0) dX3_runScript_41 (by decide) ?_
    refine p_X3_274_X3 dX3_runScript_42 (by omega) (by first | exact m.1 | exact m0.1 | exact m1.1 | exact m2.1 | exact m3.1 | assumption | exact g_us | (rw [g_un (by omega)]; assumption) | (rw [g_un (by omega)]; exact g_us) | (rw [g_un (by omega), g_un (by omega)]; assumption) | (rw [g_un (by omega), g_un (by omega)]; exact g_us) | (rw [g_un (by omega), g_un (by omega), g_un (by omega)]; assumption) | ((repeat (rw [g_un (by omega)])); first | exact m.1 | exact m0.1 | exact m1.1 | exact m2.1 | exact m3.1 | exact g_us | assumption)) ?_
    refine m3.goI (i := fup (V3 0) 15 (nI 0)) (fun h4 m4 t4 => ?_)
    refine r_iload1 dX3_runScript_45 ?_
    refine r_if_eqB (tgt := 58) dX3_runScript_46 (by decide) (fun c46 => ?_) (fun c46 => ?_)
    · refine r_aload0 dX3_runScript_58 ?_
      refine r_callV (M' := mX3_goesBack) _ dX3_runScript_59 q3971 q3973 qs123 rfl (lw_all_tbl q3974) q138 (by exact pl_X3_goesBack) gc_X3 m4.1 ((k_goesBack hb m4)) (by omega) (Nat.le_of_ble_eq_true rfl) (by omega) (by omega) rfl (Nat.le_of_ble_eq_true rfl) rfl (kV fun h59 n59 e59 => ?_) kN
      obtain ⟨m5, t5, rfl⟩ := e59
      rw [up1_up1, up1_up1, up1_n (Y := up1 R 4 (R 1)) (by decide), up1_n (Y := up1 A 4 (A 1)) (by decide), up1_s, up1_s] at m5
      have eR : up1 (up1 R 4 (R 1)) 1 (R 1) = up1 R 4 (R 1) := by rw [up1_comm (by decide), up1_self]
      have eA : up1 (up1 A 4 (A 1)) 1 (A 1) = up1 A 4 (A 1) := by rw [up1_comm (by decide), up1_self]
      rw [eR, eA] at m5
      refine r_aload0 dX3_runScript_62 ?_
      refine r_aload0 dX3_runScript_63 ?_
      refine f_X3_315_X3 dX3_runScript_64 m5.1 ?_
      refine p_X3_40_X3 dX3_runScript_67 (by omega) m5.1 ?_
      refine m5.goI (i := fup (up1 V3 0 (fup (V3 0) 15 (nI 0)) 0) 18 (up1 V3 0 (fup (V3 0) 15 (nI 0)) 0 22)) (fun h6 m6 t6 => ?_)
      refine r_aload0 dX3_runScript_70 ?_
      refine r_iconst (v := nI 2) dX3_runScript_71 (by decide) ?_
      refine r_callV (M' := mX3_fails) _ dX3_runScript_72 q3489 q3491 qs57 rfl (lw_all_tbl q3492) q138 (by exact pl_X3_fails) gc_X3 m6.1 ((k_fails hb m6)) (by omega) (Nat.le_of_ble_eq_true rfl) (by omega) (by omega) rfl (Nat.le_of_ble_eq_true rfl) rfl (kI fun r72 h72 n72 e72 => ?_) kN
      obtain ⟨rfl, m7, t7, rfl⟩ := e72
      exact r_ireturn dX3_runScript_75 rfl rfl (⟨⟨fun z => absurd (z.symm.trans c9') (by decide), fun _ _ => ⟨_, m7, by rw [up1_s, fup_s], by rw [up1_s, fup_n (by decide), up1_s, fup_s, up1_s, fup_n (by decide)]; exact x1, by rw [up1_s, fup_n (by decide), up1_s, fup_n (by decide), up1_s, fup_n (by decide), x6, if_neg c46], by rw [up1_s, fup_n (by decide), up1_s, fup_n (by decide), up1_s, fup_s], fun j hj => by
              have q : j ≠ 0 ∧ j ≠ 18 ∧ j ≠ 15 := by
                simp only [List.mem_cons, List.not_mem_nil, or_false] at hj
                omega
              rw [up1_s, fup_n q.1, up1_s, fup_n q.2.1, up1_s, fup_n q.2.2, x4 j (by simp only [List.mem_cons, List.not_mem_nil, or_false] at hj ⊢; omega)]
              exact v1.1 j (by simp only [List.mem_cons, List.not_mem_nil, or_false] at hj ⊢; omega), by rw [up1_n (by decide), up1_n (by decide), up1_n (by decide), x5]; exact v1.2.1⟩, fun _ y => absurd y c46⟩, (((((t0.tr t1).tr t2).tr t3).tr t4).tr t5).tr (t6.tr t7), rfl⟩)
    · refine r_aload0 dX3_runScript_49 ?_
      refine r_callV (M' := mX3_keeps) _ dX3_runScript_50 q3501 q3503 qs60 rfl (lw_all_tbl q3504) q138 (by exact pl_X3_keeps) gc_X3 m4.1 ((k_keeps hb m4 (by rw [up1_s, fup_n (by decide), x4 5 (by decide)]; exact (v1.1 5 (by decide)).trans hc) (by rw [up1_s, fup_n (by decide), x4 6 (by decide)]; exact (v1.1 6 (by decide)).trans hf) hc8 hf8)) (by omega) (Nat.le_of_ble_eq_true rfl) (by omega) (by omega) rfl (Nat.le_of_ble_eq_true rfl) rfl (kV fun h50 n50 e50 => ?_) kN
      obtain ⟨m5, t5, rfl⟩ := e50
      rw [up1_n (Y := up1 R 4 (R 1)) (by decide), up1_n (Y := up1 A 4 (A 1)) (by decide), up1_s (Y := R), up1_s (Y := A)] at m5
      have m5 := m5.to rfl (up1_comm (show (1 : Nat) ≠ 10 + (rgf c f + rgc c) % 8 by omega)) (up1_comm (show (1 : Nat) ≠ 10 + (rgf c f + rgc c) % 8 by omega))
      refine r_aload0 dX3_runScript_53 ?_
      refine f_X3_315_X3 dX3_runScript_54 m5.1 ?_
      exact r_ireturn dX3_runScript_57 rfl rfl (⟨⟨fun z => absurd (z.symm.trans c9') (by decide), fun _ y => absurd c46 y, fun _ _ => ⟨by rw [up1_s, fup_n (by decide), fup_n (by decide), up1_s, fup_n (by decide)]; exact x1, _, m5, by rw [up1_s, fup_n (by decide), fup_n (by decide), up1_s, fup_n (by decide), x3]; exact v0, by rw [up1_s, fup_s], by rw [up1_s, fup_n (by decide), fup_s], by rw [up1_s, fup_n (by decide), fup_n (by decide), up1_s, fup_s], fun j hj => by
              have q : j ≠ 5 ∧ j ≠ 6 ∧ j ≠ 15 := by
                simp only [List.mem_cons, List.not_mem_nil, or_false] at hj
                omega
              rw [up1_s, fup_n q.1, fup_n q.2.1, up1_s, fup_n q.2.2]
              by_cases y : j = 19
              · subst y
                rw [x6, if_pos c46]
                exact v1.1 19 (by decide)
              · rw [x4 j (by simp only [List.mem_cons, List.not_mem_nil, or_false] at hj ⊢; omega)]
                exact v1.1 j (by simp only [List.mem_cons, List.not_mem_nil, or_false] at hj ⊢; omega), by rw [up1_n (by decide), up1_n (by decide), x5]; exact v1.2.1⟩⟩, ((((t0.tr t1).tr t2).tr t3).tr t4).tr t5, rfl⟩)
  · refine r_aload0 dX3_runScript_12 ?_
    refine r_aload0 dX3_runScript_13 ?_
    refine f_X3_277_X3 dX3_runScript_14 m1.1 ?_
    refine p_X3_37_X3 dX3_runScript_17 (by omega) m1.1 ?_
    refine m1.goI (i := fup (V1 0) 17 (V1 0 16)) (fun h2 m2 t2 => ?_)
    refine r_aload0 dX3_runScript_20 ?_
    refine r_iconst (v := nI 0) dX3_runScript_21 (by decide) ?_
    refine p_X3_274_X3 dX3_runScript_22 (by omega) m2.1 ?_
    refine m2.goI (i := fup (up1 V1 0 (fup (V1 0) 17 (V1 0 16)) 0) 15 (nI 0)) (fun h3 m3 t3 => ?_)
    refine r_aload0 dX3_runScript_25 ?_
    refine r_iconst (v := nI 1) dX3_runScript_26 (by decide) ?_
    refine r_callV (M' := mX3_fails) _ dX3_runScript_27 q3489 q3491 qs57 rfl (lw_all_tbl q3492) q138 (by exact pl_X3_fails) gc_X3 m3.1 ((k_fails hb m3)) (by omega) (Nat.le_of_ble_eq_true rfl) (by omega) (by omega) rfl (Nat.le_of_ble_eq_true rfl) rfl (kI fun r27 h27 n27 e27 => ?_) kN
    obtain ⟨rfl, m4, t4, rfl⟩ := e27
    exact r_ireturn dX3_runScript_30 rfl rfl (⟨⟨fun _ => ⟨_, m4, by rw [up1_s, fup_s], by rw [up1_s, fup_n (by decide), up1_s, fup_n (by decide), up1_s, fup_s, q1.2.1, z1.2], by rw [up1_s, fup_n (by decide), up1_s, fup_s], fun j hj => by
            have q : j ≠ 0 ∧ j ≠ 15 ∧ j ≠ 17 := by
              simp only [List.mem_cons, List.not_mem_nil, or_false] at hj
              omega
            rw [up1_s, fup_n q.1, up1_s, fup_n q.2.1, up1_s, fup_n q.2.2]
            exact v1.1 j (by simp only [List.mem_cons, List.not_mem_nil, or_false] at hj ⊢; omega), by rw [up1_n (by decide), up1_n (by decide), up1_n (by decide)]; exact v1.2.1⟩, fun y => absurd (z1.1.trans y) c9, fun y => absurd (z1.1.trans y) c9⟩, (((t0.tr t1).tr t2).tr t3).tr t4, rfl⟩)
end
