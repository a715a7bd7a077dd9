/-! the reference writes its line -/
set_option maxRecDepth 100000
/-- the line's text -/
def sS (g : Nat → Int32) (c : Int32) (s : List Nat) : Prop := c = nI s.length ∧ s.length ≤ 60 ∧ (∀ j, j < s.length → g j = nI (s.getD j 0)) ∧ ∀ x, x ∈ s → x < 65536
theorem sS.push {g : Nat → Int32} {c c' : Int32} {s : List Nat} {k : Nat} (h : sS g c s) (hl : s.length < 60) (hk : k < 65536) (hc : c' = nI (s.length + 1)) : sS (fup g s.length (nI k)) c' (s ++ [k]) := by
  have e : (s ++ [k]).length = s.length + 1 := by rw [List.length_append]; rfl
  refine ⟨by rw [e, hc], by rw [e]; exact hl, fun j hj => ?_, fun x hx => ?_⟩
  · rw [e] at hj
    by_cases q : j = s.length
    · subst q
      rw [fup_s]
      simp
    · rw [fup_n q, h.2.2.1 j (by omega)]
      simp [List.getElem?_append_left (show j < s.length by omega)]
  · rcases List.mem_append.mp hx with z | z
    · exact h.2.2.2 x z
    · rw [List.mem_singleton.mp z]; exact hk
theorem sS.nil {g : Nat → Int32} : sS g (nI 0) [] := ⟨rfl, by decide, fun j hj => absurd hj (Nat.not_lt_zero j), fun x hx => by cases hx⟩
def lS (V : Nat → Nat → Int32) (s : List Nat) : Prop := sS (V 6) (V 0 13) s
/-- the fields beside the line -/
def vL (V V' : Nat → Nat → Int32) : Prop := (∀ i, i ≠ 13 → V' 0 i = V 0 i) ∧ V' 7 = V 7
theorem vL.rf {V : Nat → Nat → Int32} : vL V V := ⟨fun _ _ => rfl, rfl⟩
theorem vL.tr {V V1 V2 : Nat → Nat → Int32} (x : vL V V1) (y : vL V1 V2) : vL V V2 := ⟨fun i h => (y.1 i h).trans (x.1 i h), y.2.trans x.2⟩
section
variable {K : g_K} {a n u : Nat} {V : Nat → Nat → Int32} {R : Nat → Nat → Nat} {A : Nat → Nat → Int64} {h : g_P}
theorem mS.li {h : g_P} (m : mS a V R A h) : h (a + 6) = some (g_ar 3 (aI 60 (V 6))) := m.2.2.2.2.2.2.1
theorem mS.goI {M : g_M} {d bc bs : Nat} {P : g_Q} {X : g_X} {pc : Nat} {L : List (Option Value)} {st : List Value} {i : Nat → Int32} (m : mS a V R A h) (k : ∀ h0, mS a (up1 V 0 i) R A h0 → mT a h h0 → g_G K M d bc bs P X pc L st h0 n) : g_G K M d bc bs P X pc L st (g_up h a (g_ob 2 (mF a i))) n :=
  k _ (m.oo rfl) (mT.up (k := 0) (by decide))
theorem mS.goL {M : g_M} {d bc bs : Nat} {P : g_Q} {X : g_X} {pc : Nat} {L : List (Option Value)} {st : List Value} {j : Nat} {x : Int32} (m : mS a V R A h) (k : ∀ h0, mS a (up1 V 6 (fup (V 6) j x)) R A h0 → mT a h h0 → g_G K M d bc bs P X pc L st h0 n) : g_G K M d bc bs P X pc L st (g_up h (a + 6) (g_ar 3 ((aI 60 (V 6)).set j (.int x)))) n :=
  k _ (mR.l (f := fup (V 6) j x) m (by rw [aI_set])) (mT.up (k := 6) (by decide))
theorem mS.goX {M : g_M} {d bc bs : Nat} {P : g_Q} {X : g_X} {pc : Nat} {L : List (Option Value)} {st : List Value} {j : Nat} {x : Int32} (m : mS a V R A h) (k : ∀ h0, mS a (up1 V 7 (fup (V 7) j x)) R A h0 → mT a h h0 → g_G K M d bc bs P X pc L st h0 n) : g_G K M d bc bs P X pc L st (g_up h (a + 7) (g_ar 3 ((aI 60 (V 7)).set j (.int x)))) n :=
  k _ (mR.x (f := fup (V 7) j x) m (by rw [aI_set])) (mT.up (k := 7) (by decide))
theorem mS.goN {M : g_M} {d bc bs : Nat} {P : g_Q} {X : g_X} {pc : Nat} {L : List (Option Value)} {st : List Value} {j : Nat} {x : Int32} (m : mS a V R A h) (k : ∀ h0, mS a (up1 V 8 (fup (V 8) j x)) R A h0 → mT a h h0 → g_G K M d bc bs P X pc L st h0 n) : g_G K M d bc bs P X pc L st (g_up h (a + 8) (g_ar 0 ((aI 2 (V 8)).set j (.int x)))) n :=
  k _ (mR.n (f := fup (V 8) j x) m (by rw [aI_set])) (mT.up (k := 8) (by decide))
theorem k_writes {s : List Nat} {k : Nat} (hb : k_b K ≤ a) (m : mS a V R A h) (hs : lS V s) (hl : s.length < 60) (hk : k < 65536) : g_Met K mX3_writes 1 0 0 [.ref a, .int (nI k)] h n (gV fun h' n' => (∃ V', mS a V' R A h' ∧ lS V' (s ++ [k]) ∧ vL V V') ∧ mT a h h' ∧ n' = n) gN := by
  refine g_Met.of (M := mX3_writes) (L := [some (.ref a), some (.int (nI k))]) (by decide +kernel) (Nat.le_of_ble_eq_true rfl) rfl ?_
  refine r_aload0 dX3_writes_0 ?_
  refine f_X3_30_X3 dX3_writes_1 (by first | exact m.1 | exact m0.1 | exact m1.1 | exact m2.1 | exact m3.1 | assumption | exact g_us | (rw [g_un (by omega)]; assumption) | (rw [g_un (by omega)]; exact g_us) | (rw [g_un (by omega), g_un (by omega)]; assumption) | (rw [g_un (by omega), g_un (by omega)]; exact g_us) | (rw [g_un (by omega), g_un (by omega), g_un (by omega)]; assumption) | ((repeat (rw [g_un (by omega)])); first | exact m.1 | exact m0.1 | exact m1.1 | exact m2.1 | exact m3.1 | exact g_us | assumption)) ?_
  refine r_aload0 dX3_writes_4 ?_
  refine f_X3_260_X3 dX3_writes_5 m.1 ?_
  refine r_iload1 dX3_writes_8 ?_
  refine r_i2c dX3_writes_9 (i2c_nI hk) ?_
  rw [hs.1]
  refine r_castore (s.length) dX3_writes_10 (by omega) m.li rfl (by omega) (by rw [aI_len]; omega) (pk_charN hk).1 ?_
  refine m.goL (fun h1 m1 t1 => ?_)
  refine r_aload0 dX3_writes_11 ?_
  refine r_dup dX3_writes_12 ?_
  refine f_X3_260_X3 dX3_writes_13 m1.1 ?_
  refine r_iconst (v := nI 1) dX3_writes_16 (by decide) ?_
  refine r_iadd dX3_writes_17 (show _ = nI (s.length + 1) by rw [up1_n (by decide), hs.1]; exact nI_add _ _) ?_
  refine p_X3_260_X3 dX3_writes_18 (by omega) (by first | exact m.1 | exact m0.1 | exact m1.1 | exact m2.1 | exact m3.1 | assumption | exact g_us | (rw [g_un (by omega)]; assumption) | (rw [g_un (by omega)]; exact g_us) | (rw [g_un (by omega), g_un (by omega)]; assumption) | (rw [g_un (by omega), g_un (by omega)]; exact g_us) | (rw [g_un (by omega), g_un (by omega), g_un (by omega)]; assumption) | ((repeat (rw [g_un (by omega)])); first | exact m.1 | exact m0.1 | exact m1.1 | exact m2.1 | exact m3.1 | exact g_us | assumption)) ?_
  have m2 := m1.oo (i := fup (up1 V 6 (fup (V 6) s.length (nI k)) 0) 13 (nI (s.length + 1))) rfl
  exact r_return dX3_writes_21 rfl (⟨⟨_, m2, by unfold lS; rw [up1_n (by decide), up1_s, up1_s, fup_s]; exact hs.push hl hk rfl, ⟨fun i hi => by rw [up1_s, fup_n hi, up1_n (by decide)], by rw [up1_n (by decide), up1_n (by decide)]⟩⟩, t1.tr (mT.up (k := 0) (by omega)), rfl⟩)
theorem k_writesNumber {s : List Nat} {v : Nat} (hb : k_b K ≤ a) (m : mS a V R A h) (hs : lS V s) (hl : s.length + ndg v < 60) (hv : v < 1000000000) : g_Met K mX3_writesNumber 2 0 0 [.ref a, .int (nI v)] h n (gV fun h' n' => (∃ V', mS a V' R A h' ∧ lS V' (s ++ dgN v) ∧ vL V V') ∧ mT a h h' ∧ n' = n) gN := by
  have nb := ndg_b (v := v)
  have pb : ∀ k, k ≤ 8 → 10 ^ k ≤ 100000000 := fun k hk => by
    have : 10 ^ k ≤ 10 ^ 8 := Nat.pow_le_pow_right (by decide) hk
    omega
  refine g_Met.of (M := mX3_writesNumber) (L := [some (.ref a), some (.int (nI v)), none, none]) (by decide +kernel) (Nat.le_of_ble_eq_true rfl) rfl ?_
  have loop2 : ∀ (k : Nat) (s1 : List Nat) (V1 : Nat → Nat → Int32) (h1 : g_P), k ≤ 8 → s1 ++ dgs v k = s ++ dgN v → mS a V1 R A h1 → lS V1 s1 → vL V V1 → mT a h h1 → s1.length + k < 60 → g_G K mX3_writesNumber 2 0 0 (gV fun h' n' => (∃ V', mS a V' R A h' ∧ lS V' (s ++ dgN v) ∧ vL V V') ∧ mT a h h' ∧ n' = n) gN 20 [some (.ref a), some (.int (nI v)), some (.int (nI (10 ^ ndg v))), some (.int (nI (10 ^ k)))] [] h1 n := by
    intro k
    induction k with
    | zero =>
      intro s1 V1 h1 hk he m1 l1 v1 t1 hs1
      refine r_iload3 dX3_writesNumber_20 ?_
      refine r_if_leN (tgt := 45) dX3_writesNumber_21 (by decide) (by omega) (fun c21 => absurd c21 (by omega)) (fun c21 => ?_)
      refine r_aload0 dX3_writesNumber_24 ?_
      refine r_bipush (v := nI 48) dX3_writesNumber_25 (by decide) ?_
      refine r_iload1 dX3_writesNumber_27 ?_
      refine r_iload3 dX3_writesNumber_28 ?_
      refine r_idiv dX3_writesNumber_29 (nI_ne0 (by omega) (by omega)) (show _ = nI v by rw [pk_div (by omega) (by decide) (by decide)]; exact congrArg nI (Nat.div_one v)) ?_
      refine r_bipush (v := nI 10) dX3_writesNumber_30 (by decide) ?_
      refine r_irem dX3_writesNumber_32 (nI_ne0 (by omega) (by omega)) (by first | exact pk_rem (by omega) (by omega) (by omega) | rfl) ?_
      refine r_iadd dX3_writesNumber_33 (by first | exact nI_add _ _ | rfl) ?_
      refine r_callV (M' := mX3_writes) _ dX3_writesNumber_34 q3896 q3898 qs109 rfl (lw_all_tbl q3899) q138 (by exact pl_X3_writes) gc_X3 (by first | exact m.1 | exact m0.1 | exact m1.1 | exact m2.1 | exact m3.1 | assumption | exact g_us | (rw [g_un (by omega)]; assumption) | (rw [g_un (by omega)]; exact g_us) | (rw [g_un (by omega), g_un (by omega)]; assumption) | (rw [g_un (by omega), g_un (by omega)]; exact g_us) | (rw [g_un (by omega), g_un (by omega), g_un (by omega)]; assumption) | ((repeat (rw [g_un (by omega)])); first | exact m.1 | exact m0.1 | exact m1.1 | exact m2.1 | exact m3.1 | exact g_us | assumption)) ((k_writes (s := s1) (k := 48 + v % 10) hb m1 l1 (by omega) (by omega))) (by omega) (Nat.le_of_ble_eq_true rfl) (by omega) (by omega) rfl (Nat.le_of_ble_eq_true rfl) rfl (kV fun h34 n34 e34 => ?_) kN
      obtain ⟨⟨V2, m2, l2, v2⟩, t2, rfl⟩ := e34
      refine r_iload3 dX3_writesNumber_37 ?_
      refine r_bipush (v := nI 10) dX3_writesNumber_38 (by decide) ?_
      refine r_idiv dX3_writesNumber_40 (nI_ne0 (by omega) (by omega)) (show _ = nI 0 from rfl) ?_
      refine r_istore3 dX3_writesNumber_41 ?_
      refine r_goto (tgt := 20) dX3_writesNumber_42 (by decide) ?_
      refine r_iload3 dX3_writesNumber_20 ?_
      refine r_if_leN (tgt := 45) dX3_writesNumber_21 (by decide) (by omega) (fun c21 => ?_) (fun c21 => absurd c21 (by omega))
      exact r_return dX3_writesNumber_45 rfl (⟨⟨V2, m2, by rw [← he]; exact l2, v1.tr v2⟩, t1.tr t2, rfl⟩)
    | succ k ih =>
      intro s1 V1 h1 hk he m1 l1 v1 t1 hs1
      have b1 := pb (k + 1) hk
      have b2 : 0 < 10 ^ (k + 1) := Nat.pow_pos (by decide)
      have b3 := Nat.div_le_self v (10 ^ (k + 1))
      have b4 : 10 ^ (k + 1) / 10 = 10 ^ k := by rw [Nat.pow_succ]; exact Nat.mul_div_cancel _ (by decide)
      refine r_iload3 dX3_writesNumber_20 ?_
      refine r_if_leN (tgt := 45) dX3_writesNumber_21 (by decide) (by omega) (fun c21 => absurd c21 (by omega)) (fun c21 => ?_)
      refine r_aload0 dX3_writesNumber_24 ?_
      refine r_bipush (v := nI 48) dX3_writesNumber_25 (by decide) ?_
      refine r_iload1 dX3_writesNumber_27 ?_
      refine r_iload3 dX3_writesNumber_28 ?_
      refine r_idiv dX3_writesNumber_29 (nI_ne0 (by omega) (by omega)) (by first | exact pk_div (by omega) (by omega) (by omega) | rfl) ?_
      refine r_bipush (v := nI 10) dX3_writesNumber_30 (by decide) ?_
      refine r_irem dX3_writesNumber_32 (nI_ne0 (by omega) (by omega)) (by first | exact pk_rem (by omega) (by omega) (by omega) | rfl) ?_
      refine r_iadd dX3_writesNumber_33 (by first | exact nI_add _ _ | rfl) ?_
      refine r_callV (M' := mX3_writes) _ dX3_writesNumber_34 q3896 q3898 qs109 rfl (lw_all_tbl q3899) q138 (by exact pl_X3_writes) gc_X3 (by first | exact m.1 | exact m0.1 | exact m1.1 | exact m2.1 | exact m3.1 | assumption | exact g_us | (rw [g_un (by omega)]; assumption) | (rw [g_un (by omega)]; exact g_us) | (rw [g_un (by omega), g_un (by omega)]; assumption) | (rw [g_un (by omega), g_un (by omega)]; exact g_us) | (rw [g_un (by omega), g_un (by omega), g_un (by omega)]; assumption) | ((repeat (rw [g_un (by omega)])); first | exact m.1 | exact m0.1 | exact m1.1 | exact m2.1 | exact m3.1 | exact g_us | assumption)) ((k_writes (s := s1) (k := 48 + v / 10 ^ (k + 1) % 10) hb m1 l1 (by omega) (by omega))) (by omega) (Nat.le_of_ble_eq_true rfl) (by omega) (by omega) rfl (Nat.le_of_ble_eq_true rfl) rfl (kV fun h34 n34 e34 => ?_) kN
      obtain ⟨⟨V2, m2, l2, v2⟩, t2, rfl⟩ := e34
      refine r_iload3 dX3_writesNumber_37 ?_
      refine r_bipush (v := nI 10) dX3_writesNumber_38 (by decide) ?_
      refine r_idiv dX3_writesNumber_40 (nI_ne0 (by omega) (by omega)) (show _ = nI (10 ^ k) by rw [← b4]; exact pk_div (by omega) (by decide) (by decide)) ?_
      refine r_istore3 dX3_writesNumber_41 ?_
      refine r_goto (tgt := 20) dX3_writesNumber_42 (by decide) ?_
      exact ih (s1 ++ [48 + v / 10 ^ (k + 1) % 10]) V2 _ (by omega) (by rw [← he, List.append_assoc]; rfl) m2 l2 (v1.tr v2) (t1.tr t2) (by rw [List.length_append]; show s1.length + 1 + k < 60; omega)
  have loop1 : ∀ (j k : Nat), k + j = ndg v → g_G K mX3_writesNumber 2 0 0 (gV fun h' n' => (∃ V', mS a V' R A h' ∧ lS V' (s ++ dgN v) ∧ vL V V') ∧ mT a h h' ∧ n' = n) gN 2 [some (.ref a), some (.int (nI v)), some (.int (nI (10 ^ k))), none] [] h n := by
    intro j
    induction j with
    | zero =>
      intro k hk
      have hk : k = ndg v := by omega
      subst hk
      have b1 := pb (ndg v) nb
      have b2 : 0 < 10 ^ ndg v := Nat.pow_pos (by decide)
      have b3 := Nat.div_le_self v (10 ^ ndg v)
      have b4 : ¬ 9 < v / 10 ^ ndg v := fun z => absurd ((ndg_l hv nb).mp z) (Nat.lt_irrefl _)
      refine r_iload1 dX3_writesNumber_2 ?_
      refine r_iload2 dX3_writesNumber_3 ?_
      refine r_idiv dX3_writesNumber_4 (nI_ne0 (by omega) (by omega)) (by first | exact pk_div (by omega) (by omega) (by omega) | rfl) ?_
      refine r_bipush (v := nI 9) dX3_writesNumber_5 (by decide) ?_
      refine r_icmp_leN (tgt := 18) dX3_writesNumber_7 (by decide) (by omega) (by omega) (fun c7 => ?_) (fun c7 => absurd c7 (by omega))
      refine r_iload2 dX3_writesNumber_18 ?_
      refine r_istore3 dX3_writesNumber_19 ?_
      exact loop2 (ndg v) s V h nb rfl m hs vL.rf mT.rf hl
    | succ j ih =>
      intro k hk
      have b1 := pb k (by omega)
      have b2 : 0 < 10 ^ k := Nat.pow_pos (by decide)
      have b3 := Nat.div_le_self v (10 ^ k)
      have b4 : 9 < v / 10 ^ k := (ndg_l hv (by omega)).mpr (by omega)
      refine r_iload1 dX3_writesNumber_2 ?_
      refine r_iload2 dX3_writesNumber_3 ?_
      refine r_idiv dX3_writesNumber_4 (nI_ne0 (by omega) (by omega)) (by first | exact pk_div (by omega) (by omega) (by omega) | rfl) ?_
      refine r_bipush (v := nI 9) dX3_writesNumber_5 (by decide) ?_
      refine r_icmp_leN (tgt := 18) dX3_writesNumber_7 (by decide) (by omega) (by omega) (fun c7 => absurd c7 (by omega)) (fun c7 => ?_)
      refine r_iload2 dX3_writesNumber_10 ?_
      refine r_bipush (v := nI 10) dX3_writesNumber_11 (by decide) ?_
      refine r_imul dX3_writesNumber_13 (by first | exact pk_mul _ _ | rfl) ?_
      refine r_istore2 dX3_writesNumber_14 ?_
      refine r_goto (tgt := 2) dX3_writesNumber_15 (by decide) ?_
      exact ih (k + 1) (by omega)
  refine r_iconst (v := nI 1) dX3_writesNumber_0 (by decide) ?_
  refine r_istore2 dX3_writesNumber_1 ?_
  exact loop1 (ndg v) 0 (by omega)
theorem k_writesTwo {s : List Nat} {x y : Nat} (hb : k_b K ≤ a) (m : mS a V R A h) (hs : lS V s) (hl : s.length + ndg x + ndg y + 2 < 60) (hx : x < 1000000000) (hy : y < 1000000000) : g_Met K mX3_writesTwo 3 0 0 [.ref a, .int (nI x), .int (nI y)] h n (gV fun h' n' => (∃ V', mS a V' R A h' ∧ lS V' (s ++ (dgN x ++ 47 :: dgN y)) ∧ vL V V') ∧ mT a h h' ∧ n' = n) gN := by
  have lx : (dgN x).length = ndg x + 1 := dgs_len
  refine g_Met.of (M := mX3_writesTwo) (L := [some (.ref a), some (.int (nI x)), some (.int (nI y))]) (by decide +kernel) (Nat.le_of_ble_eq_true rfl) rfl ?_
  refine r_aload0 dX3_writesTwo_0 ?_
  refine r_iload1 dX3_writesTwo_1 ?_
  refine r_callV (M' := mX3_writesNumber) _ dX3_writesTwo_2 q3892 q3894 qs108 rfl (lw_all_tbl q3895) q138 (by exact pl_X3_writesNumber) gc_X3 (by first | exact m.1 | exact m0.1 | exact m1.1 | exact m2.1 | exact m3.1 | assumption | exact g_us | (rw [g_un (by omega)]; assumption) | (rw [g_un (by omega)]; exact g_us) | (rw [g_un (by omega), g_un (by omega)]; assumption) | (rw [g_un (by omega), g_un (by omega)]; exact g_us) | (rw [g_un (by omega), g_un (by omega), g_un (by omega)]; assumption) | ((repeat (rw [g_un (by omega)])); first | exact m.1 | exact m0.1 | exact m1.1 | exact m2.1 | exact m3.1 | exact g_us | assumption)) ((k_writesNumber hb m hs (by omega) hx)) (by omega) (Nat.le_of_ble_eq_true rfl) (by omega) (by omega) rfl (Nat.le_of_ble_eq_true rfl) rfl (kV fun h2 n2 e2 => ?_) kN
  obtain ⟨⟨V1, m1, l1, v1⟩, t1, rfl⟩ := e2
  refine r_aload0 dX3_writesTwo_5 ?_
  refine r_bipush (v := nI 47) dX3_writesTwo_6 (by decide) ?_
  refine r_callV (M' := mX3_writes) _ dX3_writesTwo_8 q3896 q3898 qs109 rfl (lw_all_tbl q3899) q138 (by exact pl_X3_writes) gc_X3 (by first | exact m.1 | exact m0.1 | exact m1.1 | exact m2.1 | exact m3.1 | assumption | exact g_us | (rw [g_un (by omega)]; assumption) | (rw [g_un (by omega)]; exact g_us) | (rw [g_un (by omega), g_un (by omega)]; assumption) | (rw [g_un (by omega), g_un (by omega)]; exact g_us) | (rw [g_un (by omega), g_un (by omega), g_un (by omega)]; assumption) | ((repeat (rw [g_un (by omega)])); first | exact m.1 | exact m0.1 | exact m1.1 | exact m2.1 | exact m3.1 | exact g_us | assumption)) ((k_writes (k := 47) hb m1 l1 (by rw [List.length_append]; omega) (by decide))) (by omega) (Nat.le_of_ble_eq_true rfl) (by omega) (by omega) rfl (Nat.le_of_ble_eq_true rfl) rfl (kV fun h8 n8 e8 => ?_) kN
  obtain ⟨⟨V2, m2, l2, v2⟩, t2, rfl⟩ := e8
  refine r_aload0 dX3_writesTwo_11 ?_
  refine r_iload2 dX3_writesTwo_12 ?_
  refine r_callV (M' := mX3_writesNumber) _ dX3_writesTwo_13 q3892 q3894 qs108 rfl (lw_all_tbl q3895) q138 (by exact pl_X3_writesNumber) gc_X3 (by first | exact m.1 | exact m0.1 | exact m1.1 | exact m2.1 | exact m3.1 | assumption | exact g_us | (rw [g_un (by omega)]; assumption) | (rw [g_un (by omega)]; exact g_us) | (rw [g_un (by omega), g_un (by omega)]; assumption) | (rw [g_un (by omega), g_un (by omega)]; exact g_us) | (rw [g_un (by omega), g_un (by omega), g_un (by omega)]; assumption) | ((repeat (rw [g_un (by omega)])); first | exact m.1 | exact m0.1 | exact m1.1 | exact m2.1 | exact m3.1 | exact g_us | assumption)) ((k_writesNumber hb m2 l2 (by rw [List.length_append, List.length_append]; show s.length + _ + 1 + _ < 60; omega) hy)) (by omega) (Nat.le_of_ble_eq_true rfl) (by omega) (by omega) rfl (Nat.le_of_ble_eq_true rfl) rfl (kV fun h13 n13 e13 => ?_) kN
  obtain ⟨⟨V3, m3, l3, v3⟩, t3, rfl⟩ := e13
  exact r_return dX3_writesTwo_16 rfl (⟨⟨V3, m3, by rw [List.append_assoc, List.append_assoc] at l3; exact l3, (v1.tr v2).tr v3⟩, (t1.tr t2).tr t3, rfl⟩)
end
