/-! the reference is made -/
set_option maxRecDepth 100000
/-- the row at the start -/
def ρ0 : Nat → Nat := fun q => if q = 3 then 2 else if q = 4 then 104 else if q = 5 then 2 else 0
theorem row0 : fup (fup (fup (fun _ => lN 0) 3 (lN 2)) 4 (lN 104)) 5 (lN 2) = rw_ ρ0 (fun _ => lN 0) := by
  funext q
  unfold rw_ ρ0
  by_cases h5 : q = 5
  · subst h5; rw [fup_s]; rfl
  · rw [fup_n h5]
    by_cases h4 : q = 4
    · subst h4; rw [fup_s]; rfl
    · rw [fup_n h4]
      by_cases h3 : q = 3
      · subst h3; rw [fup_s]; rfl
      · rw [fup_n h3, if_neg h3, if_neg h4, if_neg h5]
        split <;> rfl
def V0s : Nat → Nat → Int32 := fun c i => if c = 0 ∧ (i = 17 ∨ i = 18) then -1 else nI 0
def R0s : Nat → Nat → Nat := fun c => if c = 1 then ρ0 else fun _ => 0
def A0s : Nat → Nat → Int64 := fun _ _ => lN 0
theorem wB_0 : wB 0 ρ0 := by
  refine ⟨⟨by decide, by decide, by decide, by decide, by decide, by decide, by decide, by decide⟩, fun k hk => absurd hk (by show ¬ k < 0; omega), fun k hk => absurd hk (by show ¬ k < 0; omega), fun k hk _ => ?_, fun k hk => absurd hk (by show ¬ k < 0; omega), fun k hk _ => ?_⟩ <;> (unfold ρ0; rw [if_neg (by omega), if_neg (by omega), if_neg (by omega)])
theorem zrow {c : Nat} (h : c ≠ 1) (h2 : c ≠ 2) (h3 : c < 10) : Yo R0s A0s c = fun _ => lN 0 := by
  rw [Yo_n h2 h3]
  show rw_ (if c = 1 then ρ0 else fun _ => 0) (fun _ => lN 0) = _
  rw [if_neg h]
  exact rw_0.symm
theorem zrow2 : Yo R0s A0s 2 = fun _ => lN 0 := by
  rw [Yo_2]
  funext q
  show rw_ (if 10 + q / 56 = 1 then ρ0 else fun _ => 0) (fun _ => lN 0) (q % 56) = _
  rw [if_neg (by omega)]
  exact congrFun rw_0.symm _
theorem mR.yo {a : Nat} {h : g_P} (m : mR a V0s (up1 (fun _ _ => lN 0) 1 (rw_ ρ0 fun _ => lN 0)) h) : mS a V0s R0s A0s h := by
  obtain ⟨m0, m1, m2, m3, m4, m5⟩ := m
  refine ⟨m0, ?_, ?_, ?_, ?_, m5⟩
  · rw [up1_s] at m1
    rw [Yo_n (by decide) (by decide)]
    exact m1
  · rw [zrow2]; exact m2
  · rw [zrow (by decide) (by decide) (by decide)]; exact m3
  · rw [zrow (by decide) (by decide) (by decide)]; exact m4
theorem mR.goW {K : g_K} {M : g_M} {d bc bs n a : Nat} {P : g_Q} {X : g_X} {pc : Nat} {L : List (Option Value)} {st : List Value} {V : Nat → Nat → Int32} {Y : Nat → Nat → Int64} {h : g_P} {j : Nat} {x : Int64} (m : mR a V Y h) (k : ∀ h0, mR a V (up1 Y 1 (fup (Y 1) j x)) h0 → mT a h h0 → g_G K M d bc bs P X pc L st h0 n) : g_G K M d bc bs P X pc L st (g_up h (a + 1) (g_ar 1 ((aL 56 (Y 1)).set j (.long x)))) n :=
  k _ (mR.w (f := fup (Y 1) j x) m (by rw [aL_set])) (mT.up (k := 1) (by decide))
section
variable {K : g_K} {a : Nat} {h : g_P}
theorem k_init0 (hb : k_b K ≤ a) (ho : h a = some (g_ob 2 [.int (nI 0), .null, .null, .null, .null, .int (nI 0), .int (nI 0), .int (nI 0), .int (nI 0), .int (nI 0), .int (nI 0), .null, .null, .int (nI 0), .null, .int (nI 0), .int (nI 0), .int (nI 0), .int (nI 0), .int (nI 0), .null, .int (nI 0), .int (nI 0)])) : g_Met K mX3_init 2 8 741 [.ref a] h (a + 1) (gV fun h' n' => mS a V0s R0s A0s h' ∧ (∀ q : Nat, q < a → h' q = h q) ∧ n' = a + 9) gN := by
  refine g_Met.of (M := mX3_init) (L := [some (.ref a)]) (by decide +kernel) (Nat.le_of_ble_eq_true rfl) rfl ?_
  have fin : ∀ h1 : g_P, mR a V0s (fun _ _ => lN 0) h1 → (∀ q : Nat, q < a → h1 q = h q) → g_G K mX3_init 2 0 0 (gV fun h' n' => mS a V0s R0s A0s h' ∧ (∀ q : Nat, q < a → h' q = h q) ∧ n' = a + 9) gN 77 [some (.ref a)] [] h1 (a + 9) := by
    intro h1 m1 f1
    refine r_aload0 dX3_init_77 ?_
    refine f_X3_13_X3 dX3_init_78 m1.1 ?_
    refine r_iconst (v := nI 3) dX3_init_81 (by decide) ?_
    refine r_ldc2 dX3_init_82 q3400 ?_
    refine r_lastore (3) dX3_init_85 (by omega) m1.2.1 rfl (by omega) (by rw [aL_len]; omega) ?_
    refine m1.goW (fun h2 m2 t2 => ?_)
    refine r_aload0 dX3_init_86 ?_
    refine f_X3_13_X3 dX3_init_87 m2.1 ?_
    refine r_iconst (v := nI 4) dX3_init_90 (by decide) ?_
    refine r_ldc2 dX3_init_91 q3401 ?_
    refine r_lastore (4) dX3_init_94 (by omega) m2.2.1 rfl (by omega) (by rw [aL_len]; omega) ?_
    refine m2.goW (fun h3 m3 t3 => ?_)
    refine r_aload0 dX3_init_95 ?_
    refine f_X3_13_X3 dX3_init_96 m3.1 ?_
    refine r_iconst (v := nI 5) dX3_init_99 (by decide) ?_
    refine r_ldc2 dX3_init_100 q3400 ?_
    refine r_lastore (5) dX3_init_103 (by omega) m3.2.1 rfl (by omega) (by rw [aL_len]; omega) ?_
    refine m3.goW (fun h4 m4 t4 => ?_)
    rw [up1_s, up1_up1, up1_s, up1_up1] at m4
    have m5 : mR a V0s (up1 (fun _ _ => lN 0) 1 (fup (fup (fup (fun _ => lN 0) 3 (lN 2)) 4 (lN 104)) 5 (lN 2))) h4 := m4
    rw [row0] at m5
    exact r_return dX3_init_104 rfl (⟨mR.yo m5, fun q hq => by rw [t4 q (Or.inl hq), t3 q (Or.inl hq), t2 q (Or.inl hq)]; exact f1 q hq, rfl⟩)
  refine r_aload0 dX3_init_0 ?_
  refine r_objInit dX3_init_1 q3399 q200 q201 rfl (by omega) (Nat.le_of_ble_eq_true rfl) ?_
  refine r_aload0 dX3_init_4 ?_
  refine r_bipush (v := nI 56) dX3_init_5 (by decide) ?_
  refine r_newarray (56) dX3_init_7 rfl ga_J q3472 rfl (by omega) (by first | decide | (simp [componentBytes]; omega)) (by omega) (by omega) ?_
  refine p_X3_13_X3 dX3_init_9 (by omega) (by rw [g_un (by omega)]; exact ho) ?_
  refine r_aload0 dX3_init_12 ?_
  refine r_sipush (v := nI 448) dX3_init_13 (by decide) ?_
  refine r_newarray (448) dX3_init_16 rfl ga_J q3472 rfl (by omega) (by first | decide | (simp [componentBytes]; omega)) (by omega) (by omega) ?_
  refine p_X3_17_X3 dX3_init_18 (by omega) (by rw [g_un (by omega)]; exact g_us) ?_
  refine r_aload0 dX3_init_21 ?_
  refine r_bipush (v := nI 56) dX3_init_22 (by decide) ?_
  refine r_newarray (56) dX3_init_24 rfl ga_J q3472 rfl (by omega) (by first | decide | (simp [componentBytes]; omega)) (by omega) (by omega) ?_
  refine p_X3_20_X3 dX3_init_26 (by omega) (by rw [g_un (by omega)]; exact g_us) ?_
  refine r_aload0 dX3_init_29 ?_
  refine r_bipush (v := nI 56) dX3_init_30 (by decide) ?_
  refine r_newarray (56) dX3_init_32 rfl ga_J q3472 rfl (by omega) (by first | decide | (simp [componentBytes]; omega)) (by omega) (by omega) ?_
  refine p_X3_23_X3 dX3_init_34 (by omega) (by rw [g_un (by omega)]; exact g_us) ?_
  refine r_aload0 dX3_init_37 ?_
  refine r_iconst (v := nI 3) dX3_init_38 (by decide) ?_
  refine r_newarray (3) dX3_init_39 rfl ga_I q775 rfl (by omega) (by first | decide | (simp [componentBytes]; omega)) (by omega) (by omega) ?_
  refine p_X3_26_X3 dX3_init_41 (by omega) (by rw [g_un (by omega)]; exact g_us) ?_
  refine r_aload0 dX3_init_44 ?_
  refine r_bipush (v := nI 60) dX3_init_45 (by decide) ?_
  refine r_newarray (60) dX3_init_47 rfl ga_C q3473 rfl (by omega) (by first | decide | (simp [componentBytes]; omega)) (by omega) (by omega) ?_
  refine p_X3_30_X3 dX3_init_49 (by omega) (by rw [g_un (by omega)]; exact g_us) ?_
  refine r_aload0 dX3_init_52 ?_
  refine r_bipush (v := nI 60) dX3_init_53 (by decide) ?_
  refine r_newarray (60) dX3_init_55 rfl ga_C q3473 rfl (by omega) (by first | decide | (simp [componentBytes]; omega)) (by omega) (by omega) ?_
  refine p_X3_34_X3 dX3_init_57 (by omega) (by rw [g_un (by omega)]; exact g_us) ?_
  refine r_aload0 dX3_init_60 ?_
  refine r_iconst (v := -1) dX3_init_61 (by decide) ?_
  refine p_X3_37_X3 dX3_init_62 (by omega) g_us ?_
  refine r_aload0 dX3_init_65 ?_
  refine r_iconst (v := -1) dX3_init_66 (by decide) ?_
  refine p_X3_40_X3 dX3_init_67 (by omega) g_us ?_
  refine r_aload0 dX3_init_70 ?_
  refine r_iconst (v := nI 2) dX3_init_71 (by decide) ?_
  refine r_newarray (2) dX3_init_72 rfl ga_I q775 rfl (by omega) (by first | decide | (simp [componentBytes]; omega)) (by omega) (by omega) ?_
  refine p_X3_43_X3 dX3_init_74 (by omega) (by rw [g_un (by omega)]; exact g_us) ?_
  refine g_bud (bc' := 0) (bs' := 0) (by omega) (by omega) (Nat.le_refl _) (fin _ ⟨?_, ?_, ?_, ?_, ?_, ?_, ?_, ?_, ?_⟩ (fun q hq => ?_))
  · rw [g_us]; rfl
  · (repeat first | rw [g_us] | rw [g_un (by omega)]); exact congrArg (fun l => some (g_ar 1 l)) aL_rep
  · (repeat first | rw [g_us] | rw [g_un (by omega)]); exact congrArg (fun l => some (g_ar 1 l)) aL_rep
  · (repeat first | rw [g_us] | rw [g_un (by omega)]); exact congrArg (fun l => some (g_ar 1 l)) aL_rep
  · (repeat first | rw [g_us] | rw [g_un (by omega)]); exact congrArg (fun l => some (g_ar 1 l)) aL_rep
  · (repeat first | rw [g_us] | rw [g_un (by omega)]); exact congrArg (fun l => some (g_ar 0 l)) aI_rep
  · (repeat first | rw [g_us] | rw [g_un (by omega)]); exact congrArg (fun l => some (g_ar 3 l)) aI_rep
  · (repeat first | rw [g_us] | rw [g_un (by omega)]); exact congrArg (fun l => some (g_ar 3 l)) aI_rep
  · (repeat first | rw [g_us] | rw [g_un (by omega)]); exact congrArg (fun l => some (g_ar 0 l)) aI_rep
  · (repeat rw [g_un (by omega)])
end
