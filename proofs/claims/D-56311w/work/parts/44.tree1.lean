/-! TreeMap: the small helpers, the rotations (printed by gen_tree1.py) -/
set_option maxRecDepth 100000
section
variable {K : g_K} {a n : Nat} {h : g_P} {k v l r p : Value} {c : Bool}
theorem k_parentOf (ho : h a = some (nC k v l r p c)) (hr : p = .null ∨ ∃ x, p = .ref x) : g_Met K mJ1_parentOf 0 0 0 [.ref a] h n (gA fun x h' n' => x = p ∧ h' = h ∧ n' = n) gN := by
  refine g_Met.of (M := mJ1_parentOf) (L := [some (.ref a)]) (by decide +kernel) (Nat.le_of_ble_eq_true rfl) rfl ?_
  refine r_aload0 dJ1_parentOf_0 ?_
  refine r_ifnonnull (tgt := 8) dJ1_parentOf_1 (by decide) ?_
  refine r_aload0 dJ1_parentOf_8 ?_
  refine f_J1_124_J21 dJ1_parentOf_9 (by first | assumption | exact g_us | (rw [g_un (by omega)]; assumption) | (rw [g_un (by omega)]; exact g_us) | (rw [g_un (by omega), g_un (by omega)]; assumption) | (rw [g_un (by omega), g_un (by omega)]; exact g_us) | (rw [g_un (by omega), g_un (by omega), g_un (by omega)]; assumption) | ((repeat (rw [g_un (by omega)])); first | exact g_us | assumption)) ?_
  exact r_areturn dJ1_parentOf_12 rfl (Or.inl ⟨_, rfl⟩) hr (⟨rfl, rfl, rfl⟩)
theorem k_leftOf (ho : h a = some (nC k v l r p c)) (hr : l = .null ∨ ∃ x, l = .ref x) : g_Met K mJ1_leftOf 0 0 0 [.ref a] h n (gA fun x h' n' => x = l ∧ h' = h ∧ n' = n) gN := by
  refine g_Met.of (M := mJ1_leftOf) (L := [some (.ref a)]) (by decide +kernel) (Nat.le_of_ble_eq_true rfl) rfl ?_
  refine r_aload0 dJ1_leftOf_0 ?_
  refine r_ifnonnull (tgt := 8) dJ1_leftOf_1 (by decide) ?_
  refine r_aload0 dJ1_leftOf_8 ?_
  refine f_J1_111_J21 dJ1_leftOf_9 (by first | assumption | exact g_us | (rw [g_un (by omega)]; assumption) | (rw [g_un (by omega)]; exact g_us) | (rw [g_un (by omega), g_un (by omega)]; assumption) | (rw [g_un (by omega), g_un (by omega)]; exact g_us) | (rw [g_un (by omega), g_un (by omega), g_un (by omega)]; assumption) | ((repeat (rw [g_un (by omega)])); first | exact g_us | assumption)) ?_
  exact r_areturn dJ1_leftOf_12 rfl (Or.inl ⟨_, rfl⟩) hr (⟨rfl, rfl, rfl⟩)
theorem k_rightOf (ho : h a = some (nC k v l r p c)) (hr : r = .null ∨ ∃ x, r = .ref x) : g_Met K mJ1_rightOf 0 0 0 [.ref a] h n (gA fun x h' n' => x = r ∧ h' = h ∧ n' = n) gN := by
  refine g_Met.of (M := mJ1_rightOf) (L := [some (.ref a)]) (by decide +kernel) (Nat.le_of_ble_eq_true rfl) rfl ?_
  refine r_aload0 dJ1_rightOf_0 ?_
  refine r_ifnonnull (tgt := 8) dJ1_rightOf_1 (by decide) ?_
  refine r_aload0 dJ1_rightOf_8 ?_
  refine f_J1_114_J21 dJ1_rightOf_9 (by first | assumption | exact g_us | (rw [g_un (by omega)]; assumption) | (rw [g_un (by omega)]; exact g_us) | (rw [g_un (by omega), g_un (by omega)]; assumption) | (rw [g_un (by omega), g_un (by omega)]; exact g_us) | (rw [g_un (by omega), g_un (by omega), g_un (by omega)]; assumption) | ((repeat (rw [g_un (by omega)])); first | exact g_us | assumption)) ?_
  exact r_areturn dJ1_rightOf_12 rfl (Or.inl ⟨_, rfl⟩) hr (⟨rfl, rfl, rfl⟩)
theorem k_colorOf (ho : h a = some (nC k v l r p c)) : g_Met K mJ1_colorOf 0 0 0 [.ref a] h n (gI fun x h' n' => x = (if c then nI 1 else nI 0) ∧ h' = h ∧ n' = n) gN := by
  refine g_Met.of (M := mJ1_colorOf) (L := [some (.ref a)]) (by decide +kernel) (Nat.le_of_ble_eq_true rfl) rfl ?_
  refine r_aload0 dJ1_colorOf_0 ?_
  refine r_ifnonnull (tgt := 8) dJ1_colorOf_1 (by decide) ?_
  refine r_aload0 dJ1_colorOf_8 ?_
  refine f_J1_290_J21 dJ1_colorOf_9 (by first | assumption | exact g_us | (rw [g_un (by omega)]; assumption) | (rw [g_un (by omega)]; exact g_us) | (rw [g_un (by omega), g_un (by omega)]; assumption) | (rw [g_un (by omega), g_un (by omega)]; exact g_us) | (rw [g_un (by omega), g_un (by omega), g_un (by omega)]; assumption) | ((repeat (rw [g_un (by omega)])); first | exact g_us | assumption)) ?_
  exact r_ireturn dJ1_colorOf_12 rfl (by cases c <;> rfl) (⟨rfl, rfl, rfl⟩)
theorem k_colorOfZ : g_Met K mJ1_colorOf 0 0 0 [.null] h n (gI fun x h' n' => x = nI 1 ∧ h' = h ∧ n' = n) gN := by
  refine g_Met.of (M := mJ1_colorOf) (L := [some (.null)]) (by decide +kernel) (Nat.le_of_ble_eq_true rfl) rfl ?_
  refine r_aloadZ0 dJ1_colorOf_0 ?_
  refine r_ifnonnullZ dJ1_colorOf_1 ?_
  refine r_iconst (v := nI 1) dJ1_colorOf_4 (by decide) ?_
  refine r_goto (tgt := 12) dJ1_colorOf_5 (by decide) ?_
  exact r_ireturn dJ1_colorOf_12 rfl (by first | exact nB_nar | rfl) (⟨rfl, rfl, rfl⟩)
theorem k_setColor1 (hb : k_b K ≤ a) (ho : h a = some (nC k v l r p c)) : g_Met K mJ1_setColor 0 0 0 [.ref a, .int (nI 1)] h n (gV fun h' n' => h' = g_up h a (nC k v l r p true) ∧ n' = n) gN := by
  refine g_Met.of (M := mJ1_setColor) (L := [some (.ref a), some (.int (nI 1))]) (by decide +kernel) (Nat.le_of_ble_eq_true rfl) rfl ?_
  refine r_aload0 dJ1_setColor_0 ?_
  refine r_ifnull dJ1_setColor_1 ?_
  refine r_aload0 dJ1_setColor_4 ?_
  refine r_iload1 dJ1_setColor_5 ?_
  refine p_J1_290_J21 dJ1_setColor_6 (by omega) (by first | assumption | exact g_us | (rw [g_un (by omega)]; assumption) | (rw [g_un (by omega)]; exact g_us) | (rw [g_un (by omega), g_un (by omega)]; assumption) | (rw [g_un (by omega), g_un (by omega)]; exact g_us) | (rw [g_un (by omega), g_un (by omega), g_un (by omega)]; assumption) | ((repeat (rw [g_un (by omega)])); first | exact g_us | assumption)) ?_
  exact r_return dJ1_setColor_9 rfl (⟨rfl, rfl⟩)
theorem k_setColor0 (hb : k_b K ≤ a) (ho : h a = some (nC k v l r p c)) : g_Met K mJ1_setColor 0 0 0 [.ref a, .int (nI 0)] h n (gV fun h' n' => h' = g_up h a (nC k v l r p false) ∧ n' = n) gN := by
  refine g_Met.of (M := mJ1_setColor) (L := [some (.ref a), some (.int (nI 0))]) (by decide +kernel) (Nat.le_of_ble_eq_true rfl) rfl ?_
  refine r_aload0 dJ1_setColor_0 ?_
  refine r_ifnull dJ1_setColor_1 ?_
  refine r_aload0 dJ1_setColor_4 ?_
  refine r_iload1 dJ1_setColor_5 ?_
  refine p_J1_290_J21 dJ1_setColor_6 (by omega) (by first | assumption | exact g_us | (rw [g_un (by omega)]; assumption) | (rw [g_un (by omega)]; exact g_us) | (rw [g_un (by omega), g_un (by omega)]; assumption) | (rw [g_un (by omega), g_un (by omega)]; exact g_us) | (rw [g_un (by omega), g_un (by omega), g_un (by omega)]; assumption) | ((repeat (rw [g_un (by omega)])); first | exact g_us | assumption)) ?_
  exact r_return dJ1_setColor_9 rfl (⟨rfl, rfl⟩)
theorem k_J21_init (hb : k_b K ≤ a) {v0 v1 v2 v3 v4 v5 : Value} (ho : h a = some (g_ob 24 [v0, v1, v2, v3, v4, v5])) {kx vx : Nat} (hp : p = .null ∨ ∃ x, p = .ref x) : g_Met K mJ21_init 1 0 0 [.ref a, .ref kx, .ref vx, p] h n (gV fun h' n' => h' = g_up h a (nC (.ref kx) (.ref vx) v2 v3 p true) ∧ n' = n) gN := by
  rcases hp with rfl | ⟨x, rfl⟩
  · skip
    refine g_Met.of (M := mJ21_init) (L := [some (.ref a), some (.ref kx), some (.ref vx), some (.null)]) (by decide +kernel) (Nat.le_of_ble_eq_true rfl) rfl ?_
    refine r_aload0 dJ21_init_0 ?_
    refine r_objInit dJ21_init_1 q2005 q200 q201 rfl (by omega) (Nat.le_of_ble_eq_true rfl) ?_
    refine r_aload0 dJ21_init_4 ?_
    refine r_iconst (v := nI 1) dJ21_init_5 (by decide) ?_
    refine p_J21_9_J21 dJ21_init_6 (by omega) (by first | assumption | exact g_us | (rw [g_un (by omega)]; assumption) | (rw [g_un (by omega)]; exact g_us) | (rw [g_un (by omega), g_un (by omega)]; assumption) | (rw [g_un (by omega), g_un (by omega)]; exact g_us) | (rw [g_un (by omega), g_un (by omega), g_un (by omega)]; assumption) | ((repeat (rw [g_un (by omega)])); first | exact g_us | assumption)) ?_
    refine r_aload0 dJ21_init_9 ?_
    refine r_aload1 dJ21_init_10 ?_
    refine p_J21_15_J21 dJ21_init_11 (by omega) g_us ?_
    refine r_aload0 dJ21_init_14 ?_
    refine r_aload2 dJ21_init_15 ?_
    refine p_J21_19_J21 dJ21_init_16 (by omega) g_us ?_
    refine r_aload0 dJ21_init_19 ?_
    refine r_aloadZ3 dJ21_init_20 ?_
    refine p_J21_22_J21 dJ21_init_21 (by omega) g_us ?_
    exact r_return dJ21_init_24 rfl (⟨by rw [g_up_up, g_up_up, g_up_up]; rfl, rfl⟩)
  · skip
    refine g_Met.of (M := mJ21_init) (L := [some (.ref a), some (.ref kx), some (.ref vx), some (.ref x)]) (by decide +kernel) (Nat.le_of_ble_eq_true rfl) rfl ?_
    refine r_aload0 dJ21_init_0 ?_
    refine r_objInit dJ21_init_1 q2005 q200 q201 rfl (by omega) (Nat.le_of_ble_eq_true rfl) ?_
    refine r_aload0 dJ21_init_4 ?_
    refine r_iconst (v := nI 1) dJ21_init_5 (by decide) ?_
    refine p_J21_9_J21 dJ21_init_6 (by omega) (by first | assumption | exact g_us | (rw [g_un (by omega)]; assumption) | (rw [g_un (by omega)]; exact g_us) | (rw [g_un (by omega), g_un (by omega)]; assumption) | (rw [g_un (by omega), g_un (by omega)]; exact g_us) | (rw [g_un (by omega), g_un (by omega), g_un (by omega)]; assumption) | ((repeat (rw [g_un (by omega)])); first | exact g_us | assumption)) ?_
    refine r_aload0 dJ21_init_9 ?_
    refine r_aload1 dJ21_init_10 ?_
    refine p_J21_15_J21 dJ21_init_11 (by omega) g_us ?_
    refine r_aload0 dJ21_init_14 ?_
    refine r_aload2 dJ21_init_15 ?_
    refine p_J21_19_J21 dJ21_init_16 (by omega) g_us ?_
    refine r_aload0 dJ21_init_19 ?_
    refine r_aload3 dJ21_init_20 ?_
    refine p_J21_22_J21 dJ21_init_21 (by omega) g_us ?_
    exact r_return dJ21_init_24 rfl (⟨by rw [g_up_up, g_up_up, g_up_up]; rfl, rfl⟩)

theorem k_rotL {mp y : Nat} {t sz mc nk ky vy yl yr q : Value} {cy : Bool} (bm : k_b K ≤ mp) (bp : k_b K ≤ a) (by0 : k_b K ≤ y) (hm : h mp = some (trM t sz mc nk)) (hp : h a = some (trS false k v l (.ref y) q c)) (hy : h y = some (trS false ky vy yl yr (.ref a) cy)) (py : a ≠ y)
    (fb : yl = .null ∨ ∃ (b : Nat) (kb vb lb rb : Value) (cb : Bool), yl = .ref b ∧ h b = some (nC kb vb lb rb (.ref y) cb) ∧ b ≠ a ∧ b ≠ y ∧ k_b K ≤ b ∧ q ≠ .ref b)
    (fq : q = .null ∨ ∃ (e : Nat) (s : Bool) (ke ve o qe : Value) (ce : Bool), q = .ref e ∧ h e = some (trS s ke ve (.ref a) o qe ce) ∧ e ≠ a ∧ e ≠ y ∧ k_b K ≤ e ∧ (o = .null ∨ ∃ z, o = .ref z ∧ z ≠ a)) : g_Met K mJ1_rotateLeft 0 0 0 [.ref mp, .ref a] h n (gV fun h' n' => rot false h h' mp sz mc nk a y k v l c ky vy yl yr cy q ∧ n' = n) gN := by
  have m1 : mp ≠ a := fun e => by rw [e, hp] at hm; exact trne hm
  have m2 : mp ≠ y := fun e => by rw [e, hy] at hm; exact trne hm
  have hp : h a = some (nC k v l (.ref y) q c) := hp
  have hy : h y = some (nC ky vy yl yr (.ref a) cy) := hy
  refine g_Met.of (M := mJ1_rotateLeft) (L := [some (.ref mp), some (.ref a), none]) (by decide +kernel) (Nat.le_of_ble_eq_true rfl) rfl ?_

  rcases fb with rfl | ⟨b, kb, vb, lb, rb, cb, rfl, hb, b1, b2, b3, b4⟩
  · rcases fq with rfl | ⟨e, s, ke, ve, w, qe, ce, rfl, he, e1, e2, e3, e4⟩
    · skip
      skip
      refine r_aload1 dJ1_rotateLeft_0 ?_
      refine r_ifnull dJ1_rotateLeft_1 ?_
      refine r_aload1 dJ1_rotateLeft_4 ?_
      refine f_J1_114_J21 dJ1_rotateLeft_5 (by first | assumption | exact g_us | (rw [g_un (by omega)]; assumption) | (rw [g_un (by omega)]; exact g_us) | (rw [g_un (by omega), g_un (by omega)]; assumption) | (rw [g_un (by omega), g_un (by omega)]; exact g_us) | (rw [g_un (by omega), g_un (by omega), g_un (by omega)]; assumption) | ((repeat (rw [g_un (by omega)])); first | exact g_us | assumption)) ?_
      refine r_astore2 dJ1_rotateLeft_8 ?_
      refine r_aload1 dJ1_rotateLeft_9 ?_
      refine r_aload2 dJ1_rotateLeft_10 ?_
      refine f_J1_111_J21 dJ1_rotateLeft_11 (by first | assumption | exact g_us | (rw [g_un (by omega)]; assumption) | (rw [g_un (by omega)]; exact g_us) | (rw [g_un (by omega), g_un (by omega)]; assumption) | (rw [g_un (by omega), g_un (by omega)]; exact g_us) | (rw [g_un (by omega), g_un (by omega), g_un (by omega)]; assumption) | ((repeat (rw [g_un (by omega)])); first | exact g_us | assumption)) ?_
      refine p_J1_114_J21 dJ1_rotateLeft_14 (by omega) (by first | assumption | exact g_us | (rw [g_un (by omega)]; assumption) | (rw [g_un (by omega)]; exact g_us) | (rw [g_un (by omega), g_un (by omega)]; assumption) | (rw [g_un (by omega), g_un (by omega)]; exact g_us) | (rw [g_un (by omega), g_un (by omega), g_un (by omega)]; assumption) | ((repeat (rw [g_un (by omega)])); first | exact g_us | assumption)) ?_
      refine r_aload2 dJ1_rotateLeft_17 ?_
      refine f_J1_111_J21 dJ1_rotateLeft_18 (by first | assumption | exact g_us | (rw [g_un (by omega)]; assumption) | (rw [g_un (by omega)]; exact g_us) | (rw [g_un (by omega), g_un (by omega)]; assumption) | (rw [g_un (by omega), g_un (by omega)]; exact g_us) | (rw [g_un (by omega), g_un (by omega), g_un (by omega)]; assumption) | ((repeat (rw [g_un (by omega)])); first | exact g_us | assumption)) ?_
      refine r_ifnullZ (tgt := 32) dJ1_rotateLeft_21 (by decide) ?_
      refine r_aload2 dJ1_rotateLeft_32 ?_
      refine r_aload1 dJ1_rotateLeft_33 ?_
      refine f_J1_124_J21 dJ1_rotateLeft_34 (by first | assumption | exact g_us | (rw [g_un (by omega)]; assumption) | (rw [g_un (by omega)]; exact g_us) | (rw [g_un (by omega), g_un (by omega)]; assumption) | (rw [g_un (by omega), g_un (by omega)]; exact g_us) | (rw [g_un (by omega), g_un (by omega), g_un (by omega)]; assumption) | ((repeat (rw [g_un (by omega)])); first | exact g_us | assumption)) ?_
      refine p_J1_124_J21 dJ1_rotateLeft_37 (by omega) (by first | assumption | exact g_us | (rw [g_un (by omega)]; assumption) | (rw [g_un (by omega)]; exact g_us) | (rw [g_un (by omega), g_un (by omega)]; assumption) | (rw [g_un (by omega), g_un (by omega)]; exact g_us) | (rw [g_un (by omega), g_un (by omega), g_un (by omega)]; assumption) | ((repeat (rw [g_un (by omega)])); first | exact g_us | assumption)) ?_
      refine r_aload1 dJ1_rotateLeft_40 ?_
      refine f_J1_124_J21 dJ1_rotateLeft_41 (by first | assumption | exact g_us | (rw [g_un (by omega)]; assumption) | (rw [g_un (by omega)]; exact g_us) | (rw [g_un (by omega), g_un (by omega)]; assumption) | (rw [g_un (by omega), g_un (by omega)]; exact g_us) | (rw [g_un (by omega), g_un (by omega), g_un (by omega)]; assumption) | ((repeat (rw [g_un (by omega)])); first | exact g_us | assumption)) ?_
      refine r_ifnonnullZ dJ1_rotateLeft_44 ?_
      refine r_aload0 dJ1_rotateLeft_47 ?_
      refine r_aload2 dJ1_rotateLeft_48 ?_
      refine p_J1_101_J1 dJ1_rotateLeft_49 (by omega) (by first | assumption | exact g_us | (rw [g_un (by omega)]; assumption) | (rw [g_un (by omega)]; exact g_us) | (rw [g_un (by omega), g_un (by omega)]; assumption) | (rw [g_un (by omega), g_un (by omega)]; exact g_us) | (rw [g_un (by omega), g_un (by omega), g_un (by omega)]; assumption) | ((repeat (rw [g_un (by omega)])); first | exact g_us | assumption)) ?_
      refine r_goto (tgt := 85) dJ1_rotateLeft_52 (by decide) ?_
      refine r_aload2 dJ1_rotateLeft_85 ?_
      refine r_aload1 dJ1_rotateLeft_86 ?_
      refine p_J1_111_J21 dJ1_rotateLeft_87 (by omega) (by first | assumption | exact g_us | (rw [g_un (by omega)]; assumption) | (rw [g_un (by omega)]; exact g_us) | (rw [g_un (by omega), g_un (by omega)]; assumption) | (rw [g_un (by omega), g_un (by omega)]; exact g_us) | (rw [g_un (by omega), g_un (by omega), g_un (by omega)]; assumption) | ((repeat (rw [g_un (by omega)])); first | exact g_us | assumption)) ?_
      refine r_aload1 dJ1_rotateLeft_90 ?_
      refine r_aload2 dJ1_rotateLeft_91 ?_
      refine p_J1_124_J21 dJ1_rotateLeft_92 (by omega) (by first | assumption | exact g_us | (rw [g_un (by omega)]; assumption) | (rw [g_un (by omega)]; exact g_us) | (rw [g_un (by omega), g_un (by omega)]; assumption) | (rw [g_un (by omega), g_un (by omega)]; exact g_us) | (rw [g_un (by omega), g_un (by omega), g_un (by omega)]; assumption) | ((repeat (rw [g_un (by omega)])); first | exact g_us | assumption)) ?_
      exact r_return dJ1_rotateLeft_95 rfl (⟨rot_of (by (repeat (rw [g_un (by omega)])); exact g_us) (by (repeat (rw [g_un (by omega)])); exact g_us) (Or.inl rfl) (Or.inl ⟨rfl, by (repeat (rw [g_un (by omega)])); exact g_us⟩) (fun z z1 z2 z3 z4 z5 => by skip; have z7 : z ≠ mp := z5 rfl; repeat (rw [g_un (by omega)])), rfl⟩)
    · have m4 : mp ≠ e := fun e0 => by rw [e0, he] at hm; exact trne hm
      cases s
      · have he : h e = some (nC ke ve (.ref a) w qe ce) := he
        have ho9 : w ≠ .ref a := by rcases e4 with rfl | ⟨z, rfl, z2⟩
                                    · intro e0; cases e0
                                    · intro e0; cases e0; exact z2 rfl
        skip
        refine r_aload1 dJ1_rotateLeft_0 ?_
        refine r_ifnull dJ1_rotateLeft_1 ?_
        refine r_aload1 dJ1_rotateLeft_4 ?_
        refine f_J1_114_J21 dJ1_rotateLeft_5 (by first | assumption | exact g_us | (rw [g_un (by omega)]; assumption) | (rw [g_un (by omega)]; exact g_us) | (rw [g_un (by omega), g_un (by omega)]; assumption) | (rw [g_un (by omega), g_un (by omega)]; exact g_us) | (rw [g_un (by omega), g_un (by omega), g_un (by omega)]; assumption) | ((repeat (rw [g_un (by omega)])); first | exact g_us | assumption)) ?_
        refine r_astore2 dJ1_rotateLeft_8 ?_
        refine r_aload1 dJ1_rotateLeft_9 ?_
        refine r_aload2 dJ1_rotateLeft_10 ?_
        refine f_J1_111_J21 dJ1_rotateLeft_11 (by first | assumption | exact g_us | (rw [g_un (by omega)]; assumption) | (rw [g_un (by omega)]; exact g_us) | (rw [g_un (by omega), g_un (by omega)]; assumption) | (rw [g_un (by omega), g_un (by omega)]; exact g_us) | (rw [g_un (by omega), g_un (by omega), g_un (by omega)]; assumption) | ((repeat (rw [g_un (by omega)])); first | exact g_us | assumption)) ?_
        refine p_J1_114_J21 dJ1_rotateLeft_14 (by omega) (by first | assumption | exact g_us | (rw [g_un (by omega)]; assumption) | (rw [g_un (by omega)]; exact g_us) | (rw [g_un (by omega), g_un (by omega)]; assumption) | (rw [g_un (by omega), g_un (by omega)]; exact g_us) | (rw [g_un (by omega), g_un (by omega), g_un (by omega)]; assumption) | ((repeat (rw [g_un (by omega)])); first | exact g_us | assumption)) ?_
        refine r_aload2 dJ1_rotateLeft_17 ?_
        refine f_J1_111_J21 dJ1_rotateLeft_18 (by first | assumption | exact g_us | (rw [g_un (by omega)]; assumption) | (rw [g_un (by omega)]; exact g_us) | (rw [g_un (by omega), g_un (by omega)]; assumption) | (rw [g_un (by omega), g_un (by omega)]; exact g_us) | (rw [g_un (by omega), g_un (by omega), g_un (by omega)]; assumption) | ((repeat (rw [g_un (by omega)])); first | exact g_us | assumption)) ?_
        refine r_ifnullZ (tgt := 32) dJ1_rotateLeft_21 (by decide) ?_
        refine r_aload2 dJ1_rotateLeft_32 ?_
        refine r_aload1 dJ1_rotateLeft_33 ?_
        refine f_J1_124_J21 dJ1_rotateLeft_34 (by first | assumption | exact g_us | (rw [g_un (by omega)]; assumption) | (rw [g_un (by omega)]; exact g_us) | (rw [g_un (by omega), g_un (by omega)]; assumption) | (rw [g_un (by omega), g_un (by omega)]; exact g_us) | (rw [g_un (by omega), g_un (by omega), g_un (by omega)]; assumption) | ((repeat (rw [g_un (by omega)])); first | exact g_us | assumption)) ?_
        refine p_J1_124_J21 dJ1_rotateLeft_37 (by omega) (by first | assumption | exact g_us | (rw [g_un (by omega)]; assumption) | (rw [g_un (by omega)]; exact g_us) | (rw [g_un (by omega), g_un (by omega)]; assumption) | (rw [g_un (by omega), g_un (by omega)]; exact g_us) | (rw [g_un (by omega), g_un (by omega), g_un (by omega)]; assumption) | ((repeat (rw [g_un (by omega)])); first | exact g_us | assumption)) ?_
        refine r_aload1 dJ1_rotateLeft_40 ?_
        refine f_J1_124_J21 dJ1_rotateLeft_41 (by first | assumption | exact g_us | (rw [g_un (by omega)]; assumption) | (rw [g_un (by omega)]; exact g_us) | (rw [g_un (by omega), g_un (by omega)]; assumption) | (rw [g_un (by omega), g_un (by omega)]; exact g_us) | (rw [g_un (by omega), g_un (by omega), g_un (by omega)]; assumption) | ((repeat (rw [g_un (by omega)])); first | exact g_us | assumption)) ?_
        refine r_ifnonnull (tgt := 55) dJ1_rotateLeft_44 (by decide) ?_
        refine r_aload1 dJ1_rotateLeft_55 ?_
        refine f_J1_124_J21 dJ1_rotateLeft_56 (by first | assumption | exact g_us | (rw [g_un (by omega)]; assumption) | (rw [g_un (by omega)]; exact g_us) | (rw [g_un (by omega), g_un (by omega)]; assumption) | (rw [g_un (by omega), g_un (by omega)]; exact g_us) | (rw [g_un (by omega), g_un (by omega), g_un (by omega)]; assumption) | ((repeat (rw [g_un (by omega)])); first | exact g_us | assumption)) ?_
        refine f_J1_111_J21 dJ1_rotateLeft_59 (by first | assumption | exact g_us | (rw [g_un (by omega)]; assumption) | (rw [g_un (by omega)]; exact g_us) | (rw [g_un (by omega), g_un (by omega)]; assumption) | (rw [g_un (by omega), g_un (by omega)]; exact g_us) | (rw [g_un (by omega), g_un (by omega), g_un (by omega)]; assumption) | ((repeat (rw [g_un (by omega)])); first | exact g_us | assumption)) ?_
        refine r_aload1 dJ1_rotateLeft_62 ?_
        refine r_acmp_ne (tgt := 77) dJ1_rotateLeft_63 (by decide) (fun c63 => absurd c63 ((fun z => z rfl))) (fun c63 => ?_)
        refine r_aload1 dJ1_rotateLeft_66 ?_
        refine f_J1_124_J21 dJ1_rotateLeft_67 (by first | assumption | exact g_us | (rw [g_un (by omega)]; assumption) | (rw [g_un (by omega)]; exact g_us) | (rw [g_un (by omega), g_un (by omega)]; assumption) | (rw [g_un (by omega), g_un (by omega)]; exact g_us) | (rw [g_un (by omega), g_un (by omega), g_un (by omega)]; assumption) | ((repeat (rw [g_un (by omega)])); first | exact g_us | assumption)) ?_
        refine r_aload2 dJ1_rotateLeft_70 ?_
        refine p_J1_111_J21 dJ1_rotateLeft_71 (by omega) (by first | assumption | exact g_us | (rw [g_un (by omega)]; assumption) | (rw [g_un (by omega)]; exact g_us) | (rw [g_un (by omega), g_un (by omega)]; assumption) | (rw [g_un (by omega), g_un (by omega)]; exact g_us) | (rw [g_un (by omega), g_un (by omega), g_un (by omega)]; assumption) | ((repeat (rw [g_un (by omega)])); first | exact g_us | assumption)) ?_
        refine r_goto (tgt := 85) dJ1_rotateLeft_74 (by decide) ?_
        refine r_aload2 dJ1_rotateLeft_85 ?_
        refine r_aload1 dJ1_rotateLeft_86 ?_
        refine p_J1_111_J21 dJ1_rotateLeft_87 (by omega) (by first | assumption | exact g_us | (rw [g_un (by omega)]; assumption) | (rw [g_un (by omega)]; exact g_us) | (rw [g_un (by omega), g_un (by omega)]; assumption) | (rw [g_un (by omega), g_un (by omega)]; exact g_us) | (rw [g_un (by omega), g_un (by omega), g_un (by omega)]; assumption) | ((repeat (rw [g_un (by omega)])); first | exact g_us | assumption)) ?_
        refine r_aload1 dJ1_rotateLeft_90 ?_
        refine r_aload2 dJ1_rotateLeft_91 ?_
        refine p_J1_124_J21 dJ1_rotateLeft_92 (by omega) (by first | assumption | exact g_us | (rw [g_un (by omega)]; assumption) | (rw [g_un (by omega)]; exact g_us) | (rw [g_un (by omega), g_un (by omega)]; assumption) | (rw [g_un (by omega), g_un (by omega)]; exact g_us) | (rw [g_un (by omega), g_un (by omega), g_un (by omega)]; assumption) | ((repeat (rw [g_un (by omega)])); first | exact g_us | assumption)) ?_
        exact r_return dJ1_rotateLeft_95 rfl (⟨rot_of (by (repeat (rw [g_un (by omega)])); exact g_us) (by (repeat (rw [g_un (by omega)])); exact g_us) (Or.inl rfl) (Or.inr ⟨e, false, ke, ve, _, qe, ce, rfl, ho9, he, by (repeat (rw [g_un (by omega)])); exact g_us⟩) (fun z z1 z2 z3 z4 z5 => by skip; have z7 : z ≠ e := fun e0 => z4 (by rw [e0]); repeat (rw [g_un (by omega)])), rfl⟩)
      · have he : h e = some (nC ke ve w (.ref a) qe ce) := he
        rcases e4 with rfl | ⟨z, rfl, z2⟩
        · skip
          skip
          refine r_aload1 dJ1_rotateLeft_0 ?_
          refine r_ifnull dJ1_rotateLeft_1 ?_
          refine r_aload1 dJ1_rotateLeft_4 ?_
          refine f_J1_114_J21 dJ1_rotateLeft_5 (by first | assumption | exact g_us | (rw [g_un (by omega)]; assumption) | (rw [g_un (by omega)]; exact g_us) | (rw [g_un (by omega), g_un (by omega)]; assumption) | (rw [g_un (by omega), g_un (by omega)]; exact g_us) | (rw [g_un (by omega), g_un (by omega), g_un (by omega)]; assumption) | ((repeat (rw [g_un (by omega)])); first | exact g_us | assumption)) ?_
          refine r_astore2 dJ1_rotateLeft_8 ?_
          refine r_aload1 dJ1_rotateLeft_9 ?_
          refine r_aload2 dJ1_rotateLeft_10 ?_
          refine f_J1_111_J21 dJ1_rotateLeft_11 (by first | assumption | exact g_us | (rw [g_un (by omega)]; assumption) | (rw [g_un (by omega)]; exact g_us) | (rw [g_un (by omega), g_un (by omega)]; assumption) | (rw [g_un (by omega), g_un (by omega)]; exact g_us) | (rw [g_un (by omega), g_un (by omega), g_un (by omega)]; assumption) | ((repeat (rw [g_un (by omega)])); first | exact g_us | assumption)) ?_
          refine p_J1_114_J21 dJ1_rotateLeft_14 (by omega) (by first | assumption | exact g_us | (rw [g_un (by omega)]; assumption) | (rw [g_un (by omega)]; exact g_us) | (rw [g_un (by omega), g_un (by omega)]; assumption) | (rw [g_un (by omega), g_un (by omega)]; exact g_us) | (rw [g_un (by omega), g_un (by omega), g_un (by omega)]; assumption) | ((repeat (rw [g_un (by omega)])); first | exact g_us | assumption)) ?_
          refine r_aload2 dJ1_rotateLeft_17 ?_
          refine f_J1_111_J21 dJ1_rotateLeft_18 (by first | assumption | exact g_us | (rw [g_un (by omega)]; assumption) | (rw [g_un (by omega)]; exact g_us) | (rw [g_un (by omega), g_un (by omega)]; assumption) | (rw [g_un (by omega), g_un (by omega)]; exact g_us) | (rw [g_un (by omega), g_un (by omega), g_un (by omega)]; assumption) | ((repeat (rw [g_un (by omega)])); first | exact g_us | assumption)) ?_
          refine r_ifnullZ (tgt := 32) dJ1_rotateLeft_21 (by decide) ?_
          refine r_aload2 dJ1_rotateLeft_32 ?_
          refine r_aload1 dJ1_rotateLeft_33 ?_
          refine f_J1_124_J21 dJ1_rotateLeft_34 (by first | assumption | exact g_us | (rw [g_un (by omega)]; assumption) | (rw [g_un (by omega)]; exact g_us) | (rw [g_un (by omega), g_un (by omega)]; assumption) | (rw [g_un (by omega), g_un (by omega)]; exact g_us) | (rw [g_un (by omega), g_un (by omega), g_un (by omega)]; assumption) | ((repeat (rw [g_un (by omega)])); first | exact g_us | assumption)) ?_
          refine p_J1_124_J21 dJ1_rotateLeft_37 (by omega) (by first | assumption | exact g_us | (rw [g_un (by omega)]; assumption) | (rw [g_un (by omega)]; exact g_us) | (rw [g_un (by omega), g_un (by omega)]; assumption) | (rw [g_un (by omega), g_un (by omega)]; exact g_us) | (rw [g_un (by omega), g_un (by omega), g_un (by omega)]; assumption) | ((repeat (rw [g_un (by omega)])); first | exact g_us | assumption)) ?_
          refine r_aload1 dJ1_rotateLeft_40 ?_
          refine f_J1_124_J21 dJ1_rotateLeft_41 (by first | assumption | exact g_us | (rw [g_un (by omega)]; assumption) | (rw [g_un (by omega)]; exact g_us) | (rw [g_un (by omega), g_un (by omega)]; assumption) | (rw [g_un (by omega), g_un (by omega)]; exact g_us) | (rw [g_un (by omega), g_un (by omega), g_un (by omega)]; assumption) | ((repeat (rw [g_un (by omega)])); first | exact g_us | assumption)) ?_
          refine r_ifnonnull (tgt := 55) dJ1_rotateLeft_44 (by decide) ?_
          refine r_aload1 dJ1_rotateLeft_55 ?_
          refine f_J1_124_J21 dJ1_rotateLeft_56 (by first | assumption | exact g_us | (rw [g_un (by omega)]; assumption) | (rw [g_un (by omega)]; exact g_us) | (rw [g_un (by omega), g_un (by omega)]; assumption) | (rw [g_un (by omega), g_un (by omega)]; exact g_us) | (rw [g_un (by omega), g_un (by omega), g_un (by omega)]; assumption) | ((repeat (rw [g_un (by omega)])); first | exact g_us | assumption)) ?_
          refine f_J1_111_J21 dJ1_rotateLeft_59 (by first | assumption | exact g_us | (rw [g_un (by omega)]; assumption) | (rw [g_un (by omega)]; exact g_us) | (rw [g_un (by omega), g_un (by omega)]; assumption) | (rw [g_un (by omega), g_un (by omega)]; exact g_us) | (rw [g_un (by omega), g_un (by omega), g_un (by omega)]; assumption) | ((repeat (rw [g_un (by omega)])); first | exact g_us | assumption)) ?_
          refine r_aload1 dJ1_rotateLeft_62 ?_
          refine r_acmp_neZR (tgt := 77) dJ1_rotateLeft_63 (by decide) ?_
          refine r_aload1 dJ1_rotateLeft_77 ?_
          refine f_J1_124_J21 dJ1_rotateLeft_78 (by first | assumption | exact g_us | (rw [g_un (by omega)]; assumption) | (rw [g_un (by omega)]; exact g_us) | (rw [g_un (by omega), g_un (by omega)]; assumption) | (rw [g_un (by omega), g_un (by omega)]; exact g_us) | (rw [g_un (by omega), g_un (by omega), g_un (by omega)]; assumption) | ((repeat (rw [g_un (by omega)])); first | exact g_us | assumption)) ?_
          refine r_aload2 dJ1_rotateLeft_81 ?_
          refine p_J1_114_J21 dJ1_rotateLeft_82 (by omega) (by first | assumption | exact g_us | (rw [g_un (by omega)]; assumption) | (rw [g_un (by omega)]; exact g_us) | (rw [g_un (by omega), g_un (by omega)]; assumption) | (rw [g_un (by omega), g_un (by omega)]; exact g_us) | (rw [g_un (by omega), g_un (by omega), g_un (by omega)]; assumption) | ((repeat (rw [g_un (by omega)])); first | exact g_us | assumption)) ?_
          refine r_aload2 dJ1_rotateLeft_85 ?_
          refine r_aload1 dJ1_rotateLeft_86 ?_
          refine p_J1_111_J21 dJ1_rotateLeft_87 (by omega) (by first | assumption | exact g_us | (rw [g_un (by omega)]; assumption) | (rw [g_un (by omega)]; exact g_us) | (rw [g_un (by omega), g_un (by omega)]; assumption) | (rw [g_un (by omega), g_un (by omega)]; exact g_us) | (rw [g_un (by omega), g_un (by omega), g_un (by omega)]; assumption) | ((repeat (rw [g_un (by omega)])); first | exact g_us | assumption)) ?_
          refine r_aload1 dJ1_rotateLeft_90 ?_
          refine r_aload2 dJ1_rotateLeft_91 ?_
          refine p_J1_124_J21 dJ1_rotateLeft_92 (by omega) (by first | assumption | exact g_us | (rw [g_un (by omega)]; assumption) | (rw [g_un (by omega)]; exact g_us) | (rw [g_un (by omega), g_un (by omega)]; assumption) | (rw [g_un (by omega), g_un (by omega)]; exact g_us) | (rw [g_un (by omega), g_un (by omega), g_un (by omega)]; assumption) | ((repeat (rw [g_un (by omega)])); first | exact g_us | assumption)) ?_
          exact r_return dJ1_rotateLeft_95 rfl (⟨rot_of (by (repeat (rw [g_un (by omega)])); exact g_us) (by (repeat (rw [g_un (by omega)])); exact g_us) (Or.inl rfl) (Or.inr ⟨e, true, ke, ve, _, qe, ce, rfl, (fun e0 => by cases e0), he, by (repeat (rw [g_un (by omega)])); exact g_us⟩) (fun z z1 z2 z3 z4 z5 => by skip; have z7 : z ≠ e := fun e0 => z4 (by rw [e0]); repeat (rw [g_un (by omega)])), rfl⟩)
        · skip
          skip
          refine r_aload1 dJ1_rotateLeft_0 ?_
          refine r_ifnull dJ1_rotateLeft_1 ?_
          refine r_aload1 dJ1_rotateLeft_4 ?_
          refine f_J1_114_J21 dJ1_rotateLeft_5 (by first | assumption | exact g_us | (rw [g_un (by omega)]; assumption) | (rw [g_un (by omega)]; exact g_us) | (rw [g_un (by omega), g_un (by omega)]; assumption) | (rw [g_un (by omega), g_un (by omega)]; exact g_us) | (rw [g_un (by omega), g_un (by omega), g_un (by omega)]; assumption) | ((repeat (rw [g_un (by omega)])); first | exact g_us | assumption)) ?_
          refine r_astore2 dJ1_rotateLeft_8 ?_
          refine r_aload1 dJ1_rotateLeft_9 ?_
          refine r_aload2 dJ1_rotateLeft_10 ?_
          refine f_J1_111_J21 dJ1_rotateLeft_11 (by first | assumption | exact g_us | (rw [g_un (by omega)]; assumption) | (rw [g_un (by omega)]; exact g_us) | (rw [g_un (by omega), g_un (by omega)]; assumption) | (rw [g_un (by omega), g_un (by omega)]; exact g_us) | (rw [g_un (by omega), g_un (by omega), g_un (by omega)]; assumption) | ((repeat (rw [g_un (by omega)])); first | exact g_us | assumption)) ?_
          refine p_J1_114_J21 dJ1_rotateLeft_14 (by omega) (by first | assumption | exact g_us | (rw [g_un (by omega)]; assumption) | (rw [g_un (by omega)]; exact g_us) | (rw [g_un (by omega), g_un (by omega)]; assumption) | (rw [g_un (by omega), g_un (by omega)]; exact g_us) | (rw [g_un (by omega), g_un (by omega), g_un (by omega)]; assumption) | ((repeat (rw [g_un (by omega)])); first | exact g_us | assumption)) ?_
          refine r_aload2 dJ1_rotateLeft_17 ?_
          refine f_J1_111_J21 dJ1_rotateLeft_18 (by first | assumption | exact g_us | (rw [g_un (by omega)]; assumption) | (rw [g_un (by omega)]; exact g_us) | (rw [g_un (by omega), g_un (by omega)]; assumption) | (rw [g_un (by omega), g_un (by omega)]; exact g_us) | (rw [g_un (by omega), g_un (by omega), g_un (by omega)]; assumption) | ((repeat (rw [g_un (by omega)])); first | exact g_us | assumption)) ?_
          refine r_ifnullZ (tgt := 32) dJ1_rotateLeft_21 (by decide) ?_
          refine r_aload2 dJ1_rotateLeft_32 ?_
          refine r_aload1 dJ1_rotateLeft_33 ?_
          refine f_J1_124_J21 dJ1_rotateLeft_34 (by first | assumption | exact g_us | (rw [g_un (by omega)]; assumption) | (rw [g_un (by omega)]; exact g_us) | (rw [g_un (by omega), g_un (by omega)]; assumption) | (rw [g_un (by omega), g_un (by omega)]; exact g_us) | (rw [g_un (by omega), g_un (by omega), g_un (by omega)]; assumption) | ((repeat (rw [g_un (by omega)])); first | exact g_us | assumption)) ?_
          refine p_J1_124_J21 dJ1_rotateLeft_37 (by omega) (by first | assumption | exact g_us | (rw [g_un (by omega)]; assumption) | (rw [g_un (by omega)]; exact g_us) | (rw [g_un (by omega), g_un (by omega)]; assumption) | (rw [g_un (by omega), g_un (by omega)]; exact g_us) | (rw [g_un (by omega), g_un (by omega), g_un (by omega)]; assumption) | ((repeat (rw [g_un (by omega)])); first | exact g_us | assumption)) ?_
          refine r_aload1 dJ1_rotateLeft_40 ?_
          refine f_J1_124_J21 dJ1_rotateLeft_41 (by first | assumption | exact g_us | (rw [g_un (by omega)]; assumption) | (rw [g_un (by omega)]; exact g_us) | (rw [g_un (by omega), g_un (by omega)]; assumption) | (rw [g_un (by omega), g_un (by omega)]; exact g_us) | (rw [g_un (by omega), g_un (by omega), g_un (by omega)]; assumption) | ((repeat (rw [g_un (by omega)])); first | exact g_us | assumption)) ?_
          refine r_ifnonnull (tgt := 55) dJ1_rotateLeft_44 (by decide) ?_
          refine r_aload1 dJ1_rotateLeft_55 ?_
          refine f_J1_124_J21 dJ1_rotateLeft_56 (by first | assumption | exact g_us | (rw [g_un (by omega)]; assumption) | (rw [g_un (by omega)]; exact g_us) | (rw [g_un (by omega), g_un (by omega)]; assumption) | (rw [g_un (by omega), g_un (by omega)]; exact g_us) | (rw [g_un (by omega), g_un (by omega), g_un (by omega)]; assumption) | ((repeat (rw [g_un (by omega)])); first | exact g_us | assumption)) ?_
          refine f_J1_111_J21 dJ1_rotateLeft_59 (by first | assumption | exact g_us | (rw [g_un (by omega)]; assumption) | (rw [g_un (by omega)]; exact g_us) | (rw [g_un (by omega), g_un (by omega)]; assumption) | (rw [g_un (by omega), g_un (by omega)]; exact g_us) | (rw [g_un (by omega), g_un (by omega), g_un (by omega)]; assumption) | ((repeat (rw [g_un (by omega)])); first | exact g_us | assumption)) ?_
          refine r_aload1 dJ1_rotateLeft_62 ?_
          refine r_acmp_ne (tgt := 77) dJ1_rotateLeft_63 (by decide) (fun c63 => ?_) (fun c63 => absurd c63 z2)
          refine r_aload1 dJ1_rotateLeft_77 ?_
          refine f_J1_124_J21 dJ1_rotateLeft_78 (by first | assumption | exact g_us | (rw [g_un (by omega)]; assumption) | (rw [g_un (by omega)]; exact g_us) | (rw [g_un (by omega), g_un (by omega)]; assumption) | (rw [g_un (by omega), g_un (by omega)]; exact g_us) | (rw [g_un (by omega), g_un (by omega), g_un (by omega)]; assumption) | ((repeat (rw [g_un (by omega)])); first | exact g_us | assumption)) ?_
          refine r_aload2 dJ1_rotateLeft_81 ?_
          refine p_J1_114_J21 dJ1_rotateLeft_82 (by omega) (by first | assumption | exact g_us | (rw [g_un (by omega)]; assumption) | (rw [g_un (by omega)]; exact g_us) | (rw [g_un (by omega), g_un (by omega)]; assumption) | (rw [g_un (by omega), g_un (by omega)]; exact g_us) | (rw [g_un (by omega), g_un (by omega), g_un (by omega)]; assumption) | ((repeat (rw [g_un (by omega)])); first | exact g_us | assumption)) ?_
          refine r_aload2 dJ1_rotateLeft_85 ?_
          refine r_aload1 dJ1_rotateLeft_86 ?_
          refine p_J1_111_J21 dJ1_rotateLeft_87 (by omega) (by first | assumption | exact g_us | (rw [g_un (by omega)]; assumption) | (rw [g_un (by omega)]; exact g_us) | (rw [g_un (by omega), g_un (by omega)]; assumption) | (rw [g_un (by omega), g_un (by omega)]; exact g_us) | (rw [g_un (by omega), g_un (by omega), g_un (by omega)]; assumption) | ((repeat (rw [g_un (by omega)])); first | exact g_us | assumption)) ?_
          refine r_aload1 dJ1_rotateLeft_90 ?_
          refine r_aload2 dJ1_rotateLeft_91 ?_
          refine p_J1_124_J21 dJ1_rotateLeft_92 (by omega) (by first | assumption | exact g_us | (rw [g_un (by omega)]; assumption) | (rw [g_un (by omega)]; exact g_us) | (rw [g_un (by omega), g_un (by omega)]; assumption) | (rw [g_un (by omega), g_un (by omega)]; exact g_us) | (rw [g_un (by omega), g_un (by omega), g_un (by omega)]; assumption) | ((repeat (rw [g_un (by omega)])); first | exact g_us | assumption)) ?_
          exact r_return dJ1_rotateLeft_95 rfl (⟨rot_of (by (repeat (rw [g_un (by omega)])); exact g_us) (by (repeat (rw [g_un (by omega)])); exact g_us) (Or.inl rfl) (Or.inr ⟨e, true, ke, ve, _, qe, ce, rfl, (fun e0 => by cases e0; exact z2 rfl), he, by (repeat (rw [g_un (by omega)])); exact g_us⟩) (fun z z1 z2 z3 z4 z5 => by skip; have z7 : z ≠ e := fun e0 => z4 (by rw [e0]); repeat (rw [g_un (by omega)])), rfl⟩)
  · have m3 : mp ≠ b := fun e => by rw [e, hb] at hm; exact trne (s := false) hm
    rcases fq with rfl | ⟨e, s, ke, ve, w, qe, ce, rfl, he, e1, e2, e3, e4⟩
    · skip
      skip
      refine r_aload1 dJ1_rotateLeft_0 ?_
      refine r_ifnull dJ1_rotateLeft_1 ?_
      refine r_aload1 dJ1_rotateLeft_4 ?_
      refine f_J1_114_J21 dJ1_rotateLeft_5 (by first | assumption | exact g_us | (rw [g_un (by omega)]; assumption) | (rw [g_un (by omega)]; exact g_us) | (rw [g_un (by omega), g_un (by omega)]; assumption) | (rw [g_un (by omega), g_un (by omega)]; exact g_us) | (rw [g_un (by omega), g_un (by omega), g_un (by omega)]; assumption) | ((repeat (rw [g_un (by omega)])); first | exact g_us | assumption)) ?_
      refine r_astore2 dJ1_rotateLeft_8 ?_
      refine r_aload1 dJ1_rotateLeft_9 ?_
      refine r_aload2 dJ1_rotateLeft_10 ?_
      refine f_J1_111_J21 dJ1_rotateLeft_11 (by first | assumption | exact g_us | (rw [g_un (by omega)]; assumption) | (rw [g_un (by omega)]; exact g_us) | (rw [g_un (by omega), g_un (by omega)]; assumption) | (rw [g_un (by omega), g_un (by omega)]; exact g_us) | (rw [g_un (by omega), g_un (by omega), g_un (by omega)]; assumption) | ((repeat (rw [g_un (by omega)])); first | exact g_us | assumption)) ?_
      refine p_J1_114_J21 dJ1_rotateLeft_14 (by omega) (by first | assumption | exact g_us | (rw [g_un (by omega)]; assumption) | (rw [g_un (by omega)]; exact g_us) | (rw [g_un (by omega), g_un (by omega)]; assumption) | (rw [g_un (by omega), g_un (by omega)]; exact g_us) | (rw [g_un (by omega), g_un (by omega), g_un (by omega)]; assumption) | ((repeat (rw [g_un (by omega)])); first | exact g_us | assumption)) ?_
      refine r_aload2 dJ1_rotateLeft_17 ?_
      refine f_J1_111_J21 dJ1_rotateLeft_18 (by first | assumption | exact g_us | (rw [g_un (by omega)]; assumption) | (rw [g_un (by omega)]; exact g_us) | (rw [g_un (by omega), g_un (by omega)]; assumption) | (rw [g_un (by omega), g_un (by omega)]; exact g_us) | (rw [g_un (by omega), g_un (by omega), g_un (by omega)]; assumption) | ((repeat (rw [g_un (by omega)])); first | exact g_us | assumption)) ?_
      refine r_ifnull dJ1_rotateLeft_21 ?_
      refine r_aload2 dJ1_rotateLeft_24 ?_
      refine f_J1_111_J21 dJ1_rotateLeft_25 (by first | assumption | exact g_us | (rw [g_un (by omega)]; assumption) | (rw [g_un (by omega)]; exact g_us) | (rw [g_un (by omega), g_un (by omega)]; assumption) | (rw [g_un (by omega), g_un (by omega)]; exact g_us) | (rw [g_un (by omega), g_un (by omega), g_un (by omega)]; assumption) | ((repeat (rw [g_un (by omega)])); first | exact g_us | assumption)) ?_
      refine r_aload1 dJ1_rotateLeft_28 ?_
      refine p_J1_124_J21 dJ1_rotateLeft_29 (by omega) (by first | assumption | exact g_us | (rw [g_un (by omega)]; assumption) | (rw [g_un (by omega)]; exact g_us) | (rw [g_un (by omega), g_un (by omega)]; assumption) | (rw [g_un (by omega), g_un (by omega)]; exact g_us) | (rw [g_un (by omega), g_un (by omega), g_un (by omega)]; assumption) | ((repeat (rw [g_un (by omega)])); first | exact g_us | assumption)) ?_
      refine r_aload2 dJ1_rotateLeft_32 ?_
      refine r_aload1 dJ1_rotateLeft_33 ?_
      refine f_J1_124_J21 dJ1_rotateLeft_34 (by first | assumption | exact g_us | (rw [g_un (by omega)]; assumption) | (rw [g_un (by omega)]; exact g_us) | (rw [g_un (by omega), g_un (by omega)]; assumption) | (rw [g_un (by omega), g_un (by omega)]; exact g_us) | (rw [g_un (by omega), g_un (by omega), g_un (by omega)]; assumption) | ((repeat (rw [g_un (by omega)])); first | exact g_us | assumption)) ?_
      refine p_J1_124_J21 dJ1_rotateLeft_37 (by omega) (by first | assumption | exact g_us | (rw [g_un (by omega)]; assumption) | (rw [g_un (by omega)]; exact g_us) | (rw [g_un (by omega), g_un (by omega)]; assumption) | (rw [g_un (by omega), g_un (by omega)]; exact g_us) | (rw [g_un (by omega), g_un (by omega), g_un (by omega)]; assumption) | ((repeat (rw [g_un (by omega)])); first | exact g_us | assumption)) ?_
      refine r_aload1 dJ1_rotateLeft_40 ?_
      refine f_J1_124_J21 dJ1_rotateLeft_41 (by first | assumption | exact g_us | (rw [g_un (by omega)]; assumption) | (rw [g_un (by omega)]; exact g_us) | (rw [g_un (by omega), g_un (by omega)]; assumption) | (rw [g_un (by omega), g_un (by omega)]; exact g_us) | (rw [g_un (by omega), g_un (by omega), g_un (by omega)]; assumption) | ((repeat (rw [g_un (by omega)])); first | exact g_us | assumption)) ?_
      refine r_ifnonnullZ dJ1_rotateLeft_44 ?_
      refine r_aload0 dJ1_rotateLeft_47 ?_
      refine r_aload2 dJ1_rotateLeft_48 ?_
      refine p_J1_101_J1 dJ1_rotateLeft_49 (by omega) (by first | assumption | exact g_us | (rw [g_un (by omega)]; assumption) | (rw [g_un (by omega)]; exact g_us) | (rw [g_un (by omega), g_un (by omega)]; assumption) | (rw [g_un (by omega), g_un (by omega)]; exact g_us) | (rw [g_un (by omega), g_un (by omega), g_un (by omega)]; assumption) | ((repeat (rw [g_un (by omega)])); first | exact g_us | assumption)) ?_
      refine r_goto (tgt := 85) dJ1_rotateLeft_52 (by decide) ?_
      refine r_aload2 dJ1_rotateLeft_85 ?_
      refine r_aload1 dJ1_rotateLeft_86 ?_
      refine p_J1_111_J21 dJ1_rotateLeft_87 (by omega) (by first | assumption | exact g_us | (rw [g_un (by omega)]; assumption) | (rw [g_un (by omega)]; exact g_us) | (rw [g_un (by omega), g_un (by omega)]; assumption) | (rw [g_un (by omega), g_un (by omega)]; exact g_us) | (rw [g_un (by omega), g_un (by omega), g_un (by omega)]; assumption) | ((repeat (rw [g_un (by omega)])); first | exact g_us | assumption)) ?_
      refine r_aload1 dJ1_rotateLeft_90 ?_
      refine r_aload2 dJ1_rotateLeft_91 ?_
      refine p_J1_124_J21 dJ1_rotateLeft_92 (by omega) (by first | assumption | exact g_us | (rw [g_un (by omega)]; assumption) | (rw [g_un (by omega)]; exact g_us) | (rw [g_un (by omega), g_un (by omega)]; assumption) | (rw [g_un (by omega), g_un (by omega)]; exact g_us) | (rw [g_un (by omega), g_un (by omega), g_un (by omega)]; assumption) | ((repeat (rw [g_un (by omega)])); first | exact g_us | assumption)) ?_
      exact r_return dJ1_rotateLeft_95 rfl (⟨rot_of (by (repeat (rw [g_un (by omega)])); exact g_us) (by (repeat (rw [g_un (by omega)])); exact g_us) (Or.inr ⟨b, kb, vb, lb, rb, cb, rfl, hb, by (repeat (rw [g_un (by omega)])); exact g_us⟩) (Or.inl ⟨rfl, by (repeat (rw [g_un (by omega)])); exact g_us⟩) (fun z z1 z2 z3 z4 z5 => by have z6 : z ≠ b := fun e0 => z3 (by rw [e0]); have z7 : z ≠ mp := z5 rfl; repeat (rw [g_un (by omega)])), rfl⟩)
    · have m4 : mp ≠ e := fun e0 => by rw [e0, he] at hm; exact trne hm
      have be : b ≠ e := fun e0 => b4 (by rw [e0])
      cases s
      · have he : h e = some (nC ke ve (.ref a) w qe ce) := he
        have ho9 : w ≠ .ref a := by rcases e4 with rfl | ⟨z, rfl, z2⟩
                                    · intro e0; cases e0
                                    · intro e0; cases e0; exact z2 rfl
        skip
        refine r_aload1 dJ1_rotateLeft_0 ?_
        refine r_ifnull dJ1_rotateLeft_1 ?_
        refine r_aload1 dJ1_rotateLeft_4 ?_
        refine f_J1_114_J21 dJ1_rotateLeft_5 (by first | assumption | exact g_us | (rw [g_un (by omega)]; assumption) | (rw [g_un (by omega)]; exact g_us) | (rw [g_un (by omega), g_un (by omega)]; assumption) | (rw [g_un (by omega), g_un (by omega)]; exact g_us) | (rw [g_un (by omega), g_un (by omega), g_un (by omega)]; assumption) | ((repeat (rw [g_un (by omega)])); first | exact g_us | assumption)) ?_
        refine r_astore2 dJ1_rotateLeft_8 ?_
        refine r_aload1 dJ1_rotateLeft_9 ?_
        refine r_aload2 dJ1_rotateLeft_10 ?_
        refine f_J1_111_J21 dJ1_rotateLeft_11 (by first | assumption | exact g_us | (rw [g_un (by omega)]; assumption) | (rw [g_un (by omega)]; exact g_us) | (rw [g_un (by omega), g_un (by omega)]; assumption) | (rw [g_un (by omega), g_un (by omega)]; exact g_us) | (rw [g_un (by omega), g_un (by omega), g_un (by omega)]; assumption) | ((repeat (rw [g_un (by omega)])); first | exact g_us | assumption)) ?_
        refine p_J1_114_J21 dJ1_rotateLeft_14 (by omega) (by first | assumption | exact g_us | (rw [g_un (by omega)]; assumption) | (rw [g_un (by omega)]; exact g_us) | (rw [g_un (by omega), g_un (by omega)]; assumption) | (rw [g_un (by omega), g_un (by omega)]; exact g_us) | (rw [g_un (by omega), g_un (by omega), g_un (by omega)]; assumption) | ((repeat (rw [g_un (by omega)])); first | exact g_us | assumption)) ?_
        refine r_aload2 dJ1_rotateLeft_17 ?_
        refine f_J1_111_J21 dJ1_rotateLeft_18 (by first | assumption | exact g_us | (rw [g_un (by omega)]; assumption) | (rw [g_un (by omega)]; exact g_us) | (rw [g_un (by omega), g_un (by omega)]; assumption) | (rw [g_un (by omega), g_un (by omega)]; exact g_us) | (rw [g_un (by omega), g_un (by omega), g_un (by omega)]; assumption) | ((repeat (rw [g_un (by omega)])); first | exact g_us | assumption)) ?_
        refine r_ifnull dJ1_rotateLeft_21 ?_
        refine r_aload2 dJ1_rotateLeft_24 ?_
        refine f_J1_111_J21 dJ1_rotateLeft_25 (by first | assumption | exact g_us | (rw [g_un (by omega)]; assumption) | (rw [g_un (by omega)]; exact g_us) | (rw [g_un (by omega), g_un (by omega)]; assumption) | (rw [g_un (by omega), g_un (by omega)]; exact g_us) | (rw [g_un (by omega), g_un (by omega), g_un (by omega)]; assumption) | ((repeat (rw [g_un (by omega)])); first | exact g_us | assumption)) ?_
        refine r_aload1 dJ1_rotateLeft_28 ?_
        refine p_J1_124_J21 dJ1_rotateLeft_29 (by omega) (by first | assumption | exact g_us | (rw [g_un (by omega)]; assumption) | (rw [g_un (by omega)]; exact g_us) | (rw [g_un (by omega), g_un (by omega)]; assumption) | (rw [g_un (by omega), g_un (by omega)]; exact g_us) | (rw [g_un (by omega), g_un (by omega), g_un (by omega)]; assumption) | ((repeat (rw [g_un (by omega)])); first | exact g_us | assumption)) ?_
        refine r_aload2 dJ1_rotateLeft_32 ?_
        refine r_aload1 dJ1_rotateLeft_33 ?_
        refine f_J1_124_J21 dJ1_rotateLeft_34 (by first | assumption | exact g_us | (rw [g_un (by omega)]; assumption) | (rw [g_un (by omega)]; exact g_us) | (rw [g_un (by omega), g_un (by omega)]; assumption) | (rw [g_un (by omega), g_un (by omega)]; exact g_us) | (rw [g_un (by omega), g_un (by omega), g_un (by omega)]; assumption) | ((repeat (rw [g_un (by omega)])); first | exact g_us | assumption)) ?_
        refine p_J1_124_J21 dJ1_rotateLeft_37 (by omega) (by first | assumption | exact g_us | (rw [g_un (by omega)]; assumption) | (rw [g_un (by omega)]; exact g_us) | (rw [g_un (by omega), g_un (by omega)]; assumption) | (rw [g_un (by omega), g_un (by omega)]; exact g_us) | (rw [g_un (by omega), g_un (by omega), g_un (by omega)]; assumption) | ((repeat (rw [g_un (by omega)])); first | exact g_us | assumption)) ?_
        refine r_aload1 dJ1_rotateLeft_40 ?_
        refine f_J1_124_J21 dJ1_rotateLeft_41 (by first | assumption | exact g_us | (rw [g_un (by omega)]; assumption) | (rw [g_un (by omega)]; exact g_us) | (rw [g_un (by omega), g_un (by omega)]; assumption) | (rw [g_un (by omega), g_un (by omega)]; exact g_us) | (rw [g_un (by omega), g_un (by omega), g_un (by omega)]; assumption) | ((repeat (rw [g_un (by omega)])); first | exact g_us | assumption)) ?_
        refine r_ifnonnull (tgt := 55) dJ1_rotateLeft_44 (by decide) ?_
        refine r_aload1 dJ1_rotateLeft_55 ?_
        refine f_J1_124_J21 dJ1_rotateLeft_56 (by first | assumption | exact g_us | (rw [g_un (by omega)]; assumption) | (rw [g_un (by omega)]; exact g_us) | (rw [g_un (by omega), g_un (by omega)]; assumption) | (rw [g_un (by omega), g_un (by omega)]; exact g_us) | (rw [g_un (by omega), g_un (by omega), g_un (by omega)]; assumption) | ((repeat (rw [g_un (by omega)])); first | exact g_us | assumption)) ?_
        refine f_J1_111_J21 dJ1_rotateLeft_59 (by first | assumption | exact g_us | (rw [g_un (by omega)]; assumption) | (rw [g_un (by omega)]; exact g_us) | (rw [g_un (by omega), g_un (by omega)]; assumption) | (rw [g_un (by omega), g_un (by omega)]; exact g_us) | (rw [g_un (by omega), g_un (by omega), g_un (by omega)]; assumption) | ((repeat (rw [g_un (by omega)])); first | exact g_us | assumption)) ?_
        refine r_aload1 dJ1_rotateLeft_62 ?_
        refine r_acmp_ne (tgt := 77) dJ1_rotateLeft_63 (by decide) (fun c63 => absurd c63 ((fun z => z rfl))) (fun c63 => ?_)
        refine r_aload1 dJ1_rotateLeft_66 ?_
        refine f_J1_124_J21 dJ1_rotateLeft_67 (by first | assumption | exact g_us | (rw [g_un (by omega)]; assumption) | (rw [g_un (by omega)]; exact g_us) | (rw [g_un (by omega), g_un (by omega)]; assumption) | (rw [g_un (by omega), g_un (by omega)]; exact g_us) | (rw [g_un (by omega), g_un (by omega), g_un (by omega)]; assumption) | ((repeat (rw [g_un (by omega)])); first | exact g_us | assumption)) ?_
        refine r_aload2 dJ1_rotateLeft_70 ?_
        refine p_J1_111_J21 dJ1_rotateLeft_71 (by omega) (by first | assumption | exact g_us | (rw [g_un (by omega)]; assumption) | (rw [g_un (by omega)]; exact g_us) | (rw [g_un (by omega), g_un (by omega)]; assumption) | (rw [g_un (by omega), g_un (by omega)]; exact g_us) | (rw [g_un (by omega), g_un (by omega), g_un (by omega)]; assumption) | ((repeat (rw [g_un (by omega)])); first | exact g_us | assumption)) ?_
        refine r_goto (tgt := 85) dJ1_rotateLeft_74 (by decide) ?_
        refine r_aload2 dJ1_rotateLeft_85 ?_
        refine r_aload1 dJ1_rotateLeft_86 ?_
        refine p_J1_111_J21 dJ1_rotateLeft_87 (by omega) (by first | assumption | exact g_us | (rw [g_un (by omega)]; assumption) | (rw [g_un (by omega)]; exact g_us) | (rw [g_un (by omega), g_un (by omega)]; assumption) | (rw [g_un (by omega), g_un (by omega)]; exact g_us) | (rw [g_un (by omega), g_un (by omega), g_un (by omega)]; assumption) | ((repeat (rw [g_un (by omega)])); first | exact g_us | assumption)) ?_
        refine r_aload1 dJ1_rotateLeft_90 ?_
        refine r_aload2 dJ1_rotateLeft_91 ?_
        refine p_J1_124_J21 dJ1_rotateLeft_92 (by omega) (by first | assumption | exact g_us | (rw [g_un (by omega)]; assumption) | (rw [g_un (by omega)]; exact g_us) | (rw [g_un (by omega), g_un (by omega)]; assumption) | (rw [g_un (by omega), g_un (by omega)]; exact g_us) | (rw [g_un (by omega), g_un (by omega), g_un (by omega)]; assumption) | ((repeat (rw [g_un (by omega)])); first | exact g_us | assumption)) ?_
        exact r_return dJ1_rotateLeft_95 rfl (⟨rot_of (by (repeat (rw [g_un (by omega)])); exact g_us) (by (repeat (rw [g_un (by omega)])); exact g_us) (Or.inr ⟨b, kb, vb, lb, rb, cb, rfl, hb, by (repeat (rw [g_un (by omega)])); exact g_us⟩) (Or.inr ⟨e, false, ke, ve, _, qe, ce, rfl, ho9, he, by (repeat (rw [g_un (by omega)])); exact g_us⟩) (fun z z1 z2 z3 z4 z5 => by have z6 : z ≠ b := fun e0 => z3 (by rw [e0]); have z7 : z ≠ e := fun e0 => z4 (by rw [e0]); repeat (rw [g_un (by omega)])), rfl⟩)
      · have he : h e = some (nC ke ve w (.ref a) qe ce) := he
        rcases e4 with rfl | ⟨z, rfl, z2⟩
        · skip
          skip
          refine r_aload1 dJ1_rotateLeft_0 ?_
          refine r_ifnull dJ1_rotateLeft_1 ?_
          refine r_aload1 dJ1_rotateLeft_4 ?_
          refine f_J1_114_J21 dJ1_rotateLeft_5 (by first | assumption | exact g_us | (rw [g_un (by omega)]; assumption) | (rw [g_un (by omega)]; exact g_us) | (rw [g_un (by omega), g_un (by omega)]; assumption) | (rw [g_un (by omega), g_un (by omega)]; exact g_us) | (rw [g_un (by omega), g_un (by omega), g_un (by omega)]; assumption) | ((repeat (rw [g_un (by omega)])); first | exact g_us | assumption)) ?_
          refine r_astore2 dJ1_rotateLeft_8 ?_
          refine r_aload1 dJ1_rotateLeft_9 ?_
          refine r_aload2 dJ1_rotateLeft_10 ?_
          refine f_J1_111_J21 dJ1_rotateLeft_11 (by first | assumption | exact g_us | (rw [g_un (by omega)]; assumption) | (rw [g_un (by omega)]; exact g_us) | (rw [g_un (by omega), g_un (by omega)]; assumption) | (rw [g_un (by omega), g_un (by omega)]; exact g_us) | (rw [g_un (by omega), g_un (by omega), g_un (by omega)]; assumption) | ((repeat (rw [g_un (by omega)])); first | exact g_us | assumption)) ?_
          refine p_J1_114_J21 dJ1_rotateLeft_14 (by omega) (by first | assumption | exact g_us | (rw [g_un (by omega)]; assumption) | (rw [g_un (by omega)]; exact g_us) | (rw [g_un (by omega), g_un (by omega)]; assumption) | (rw [g_un (by omega), g_un (by omega)]; exact g_us) | (rw [g_un (by omega), g_un (by omega), g_un (by omega)]; assumption) | ((repeat (rw [g_un (by omega)])); first | exact g_us | assumption)) ?_
          refine r_aload2 dJ1_rotateLeft_17 ?_
          refine f_J1_111_J21 dJ1_rotateLeft_18 (by first | assumption | exact g_us | (rw [g_un (by omega)]; assumption) | (rw [g_un (by omega)]; exact g_us) | (rw [g_un (by omega), g_un (by omega)]; assumption) | (rw [g_un (by omega), g_un (by omega)]; exact g_us) | (rw [g_un (by omega), g_un (by omega), g_un (by omega)]; assumption) | ((repeat (rw [g_un (by omega)])); first | exact g_us | assumption)) ?_
          refine r_ifnull dJ1_rotateLeft_21 ?_
          refine r_aload2 dJ1_rotateLeft_24 ?_
          refine f_J1_111_J21 dJ1_rotateLeft_25 (by first | assumption | exact g_us | (rw [g_un (by omega)]; assumption) | (rw [g_un (by omega)]; exact g_us) | (rw [g_un (by omega), g_un (by omega)]; assumption) | (rw [g_un (by omega), g_un (by omega)]; exact g_us) | (rw [g_un (by omega), g_un (by omega), g_un (by omega)]; assumption) | ((repeat (rw [g_un (by omega)])); first | exact g_us | assumption)) ?_
          refine r_aload1 dJ1_rotateLeft_28 ?_
          refine p_J1_124_J21 dJ1_rotateLeft_29 (by omega) (by first | assumption | exact g_us | (rw [g_un (by omega)]; assumption) | (rw [g_un (by omega)]; exact g_us) | (rw [g_un (by omega), g_un (by omega)]; assumption) | (rw [g_un (by omega), g_un (by omega)]; exact g_us) | (rw [g_un (by omega), g_un (by omega), g_un (by omega)]; assumption) | ((repeat (rw [g_un (by omega)])); first | exact g_us | assumption)) ?_
          refine r_aload2 dJ1_rotateLeft_32 ?_
          refine r_aload1 dJ1_rotateLeft_33 ?_
          refine f_J1_124_J21 dJ1_rotateLeft_34 (by first | assumption | exact g_us | (rw [g_un (by omega)]; assumption) | (rw [g_un (by omega)]; exact g_us) | (rw [g_un (by omega), g_un (by omega)]; assumption) | (rw [g_un (by omega), g_un (by omega)]; exact g_us) | (rw [g_un (by omega), g_un (by omega), g_un (by omega)]; assumption) | ((repeat (rw [g_un (by omega)])); first | exact g_us | assumption)) ?_
          refine p_J1_124_J21 dJ1_rotateLeft_37 (by omega) (by first | assumption | exact g_us | (rw [g_un (by omega)]; assumption) | (rw [g_un (by omega)]; exact g_us) | (rw [g_un (by omega), g_un (by omega)]; assumption) | (rw [g_un (by omega), g_un (by omega)]; exact g_us) | (rw [g_un (by omega), g_un (by omega), g_un (by omega)]; assumption) | ((repeat (rw [g_un (by omega)])); first | exact g_us | assumption)) ?_
          refine r_aload1 dJ1_rotateLeft_40 ?_
          refine f_J1_124_J21 dJ1_rotateLeft_41 (by first | assumption | exact g_us | (rw [g_un (by omega)]; assumption) | (rw [g_un (by omega)]; exact g_us) | (rw [g_un (by omega), g_un (by omega)]; assumption) | (rw [g_un (by omega), g_un (by omega)]; exact g_us) | (rw [g_un (by omega), g_un (by omega), g_un (by omega)]; assumption) | ((repeat (rw [g_un (by omega)])); first | exact g_us | assumption)) ?_
          refine r_ifnonnull (tgt := 55) dJ1_rotateLeft_44 (by decide) ?_
          refine r_aload1 dJ1_rotateLeft_55 ?_
          refine f_J1_124_J21 dJ1_rotateLeft_56 (by first | assumption | exact g_us | (rw [g_un (by omega)]; assumption) | (rw [g_un (by omega)]; exact g_us) | (rw [g_un (by omega), g_un (by omega)]; assumption) | (rw [g_un (by omega), g_un (by omega)]; exact g_us) | (rw [g_un (by omega), g_un (by omega), g_un (by omega)]; assumption) | ((repeat (rw [g_un (by omega)])); first | exact g_us | assumption)) ?_
          refine f_J1_111_J21 dJ1_rotateLeft_59 (by first | assumption | exact g_us | (rw [g_un (by omega)]; assumption) | (rw [g_un (by omega)]; exact g_us) | (rw [g_un (by omega), g_un (by omega)]; assumption) | (rw [g_un (by omega), g_un (by omega)]; exact g_us) | (rw [g_un (by omega), g_un (by omega), g_un (by omega)]; assumption) | ((repeat (rw [g_un (by omega)])); first | exact g_us | assumption)) ?_
          refine r_aload1 dJ1_rotateLeft_62 ?_
          refine r_acmp_neZR (tgt := 77) dJ1_rotateLeft_63 (by decide) ?_
          refine r_aload1 dJ1_rotateLeft_77 ?_
          refine f_J1_124_J21 dJ1_rotateLeft_78 (by first | assumption | exact g_us | (rw [g_un (by omega)]; assumption) | (rw [g_un (by omega)]; exact g_us) | (rw [g_un (by omega), g_un (by omega)]; assumption) | (rw [g_un (by omega), g_un (by omega)]; exact g_us) | (rw [g_un (by omega), g_un (by omega), g_un (by omega)]; assumption) | ((repeat (rw [g_un (by omega)])); first | exact g_us | assumption)) ?_
          refine r_aload2 dJ1_rotateLeft_81 ?_
          refine p_J1_114_J21 dJ1_rotateLeft_82 (by omega) (by first | assumption | exact g_us | (rw [g_un (by omega)]; assumption) | (rw [g_un (by omega)]; exact g_us) | (rw [g_un (by omega), g_un (by omega)]; assumption) | (rw [g_un (by omega), g_un (by omega)]; exact g_us) | (rw [g_un (by omega), g_un (by omega), g_un (by omega)]; assumption) | ((repeat (rw [g_un (by omega)])); first | exact g_us | assumption)) ?_
          refine r_aload2 dJ1_rotateLeft_85 ?_
          refine r_aload1 dJ1_rotateLeft_86 ?_
          refine p_J1_111_J21 dJ1_rotateLeft_87 (by omega) (by first | assumption | exact g_us | (rw [g_un (by omega)]; assumption) | (rw [g_un (by omega)]; exact g_us) | (rw [g_un (by omega), g_un (by omega)]; assumption) | (rw [g_un (by omega), g_un (by omega)]; exact g_us) | (rw [g_un (by omega), g_un (by omega), g_un (by omega)]; assumption) | ((repeat (rw [g_un (by omega)])); first | exact g_us | assumption)) ?_
          refine r_aload1 dJ1_rotateLeft_90 ?_
          refine r_aload2 dJ1_rotateLeft_91 ?_
          refine p_J1_124_J21 dJ1_rotateLeft_92 (by omega) (by first | assumption | exact g_us | (rw [g_un (by omega)]; assumption) | (rw [g_un (by omega)]; exact g_us) | (rw [g_un (by omega), g_un (by omega)]; assumption) | (rw [g_un (by omega), g_un (by omega)]; exact g_us) | (rw [g_un (by omega), g_un (by omega), g_un (by omega)]; assumption) | ((repeat (rw [g_un (by omega)])); first | exact g_us | assumption)) ?_
          exact r_return dJ1_rotateLeft_95 rfl (⟨rot_of (by (repeat (rw [g_un (by omega)])); exact g_us) (by (repeat (rw [g_un (by omega)])); exact g_us) (Or.inr ⟨b, kb, vb, lb, rb, cb, rfl, hb, by (repeat (rw [g_un (by omega)])); exact g_us⟩) (Or.inr ⟨e, true, ke, ve, _, qe, ce, rfl, (fun e0 => by cases e0), he, by (repeat (rw [g_un (by omega)])); exact g_us⟩) (fun z z1 z2 z3 z4 z5 => by have z6 : z ≠ b := fun e0 => z3 (by rw [e0]); have z7 : z ≠ e := fun e0 => z4 (by rw [e0]); repeat (rw [g_un (by omega)])), rfl⟩)
        · skip
          skip
          refine r_aload1 dJ1_rotateLeft_0 ?_
          refine r_ifnull dJ1_rotateLeft_1 ?_
          refine r_aload1 dJ1_rotateLeft_4 ?_
          refine f_J1_114_J21 dJ1_rotateLeft_5 (by first | assumption | exact g_us | (rw [g_un (by omega)]; assumption) | (rw [g_un (by omega)]; exact g_us) | (rw [g_un (by omega), g_un (by omega)]; assumption) | (rw [g_un (by omega), g_un (by omega)]; exact g_us) | (rw [g_un (by omega), g_un (by omega), g_un (by omega)]; assumption) | ((repeat (rw [g_un (by omega)])); first | exact g_us | assumption)) ?_
          refine r_astore2 dJ1_rotateLeft_8 ?_
          refine r_aload1 dJ1_rotateLeft_9 ?_
          refine r_aload2 dJ1_rotateLeft_10 ?_
          refine f_J1_111_J21 dJ1_rotateLeft_11 (by first | assumption | exact g_us | (rw [g_un (by omega)]; assumption) | (rw [g_un (by omega)]; exact g_us) | (rw [g_un (by omega), g_un (by omega)]; assumption) | (rw [g_un (by omega), g_un (by omega)]; exact g_us) | (rw [g_un (by omega), g_un (by omega), g_un (by omega)]; assumption) | ((repeat (rw [g_un (by omega)])); first | exact g_us | assumption)) ?_
          refine p_J1_114_J21 dJ1_rotateLeft_14 (by omega) (by first | assumption | exact g_us | (rw [g_un (by omega)]; assumption) | (rw [g_un (by omega)]; exact g_us) | (rw [g_un (by omega), g_un (by omega)]; assumption) | (rw [g_un (by omega), g_un (by omega)]; exact g_us) | (rw [g_un (by omega), g_un (by omega), g_un (by omega)]; assumption) | ((repeat (rw [g_un (by omega)])); first | exact g_us | assumption)) ?_
          refine r_aload2 dJ1_rotateLeft_17 ?_
          refine f_J1_111_J21 dJ1_rotateLeft_18 (by first | assumption | exact g_us | (rw [g_un (by omega)]; assumption) | (rw [g_un (by omega)]; exact g_us) | (rw [g_un (by omega), g_un (by omega)]; assumption) | (rw [g_un (by omega), g_un (by omega)]; exact g_us) | (rw [g_un (by omega), g_un (by omega), g_un (by omega)]; assumption) | ((repeat (rw [g_un (by omega)])); first | exact g_us | assumption)) ?_
          refine r_ifnull dJ1_rotateLeft_21 ?_
          refine r_aload2 dJ1_rotateLeft_24 ?_
          refine f_J1_111_J21 dJ1_rotateLeft_25 (by first | assumption | exact g_us | (rw [g_un (by omega)]; assumption) | (rw [g_un (by omega)]; exact g_us) | (rw [g_un (by omega), g_un (by omega)]; assumption) | (rw [g_un (by omega), g_un (by omega)]; exact g_us) | (rw [g_un (by omega), g_un (by omega), g_un (by omega)]; assumption) | ((repeat (rw [g_un (by omega)])); first | exact g_us | assumption)) ?_
          refine r_aload1 dJ1_rotateLeft_28 ?_
          refine p_J1_124_J21 dJ1_rotateLeft_29 (by omega) (by first | assumption | exact g_us | (rw [g_un (by omega)]; assumption) | (rw [g_un (by omega)]; exact g_us) | (rw [g_un (by omega), g_un (by omega)]; assumption) | (rw [g_un (by omega), g_un (by omega)]; exact g_us) | (rw [g_un (by omega), g_un (by omega), g_un (by omega)]; assumption) | ((repeat (rw [g_un (by omega)])); first | exact g_us | assumption)) ?_
          refine r_aload2 dJ1_rotateLeft_32 ?_
          refine r_aload1 dJ1_rotateLeft_33 ?_
          refine f_J1_124_J21 dJ1_rotateLeft_34 (by first | assumption | exact g_us | (rw [g_un (by omega)]; assumption) | (rw [g_un (by omega)]; exact g_us) | (rw [g_un (by omega), g_un (by omega)]; assumption) | (rw [g_un (by omega), g_un (by omega)]; exact g_us) | (rw [g_un (by omega), g_un (by omega), g_un (by omega)]; assumption) | ((repeat (rw [g_un (by omega)])); first | exact g_us | assumption)) ?_
          refine p_J1_124_J21 dJ1_rotateLeft_37 (by omega) (by first | assumption | exact g_us | (rw [g_un (by omega)]; assumption) | (rw [g_un (by omega)]; exact g_us) | (rw [g_un (by omega), g_un (by omega)]; assumption) | (rw [g_un (by omega), g_un (by omega)]; exact g_us) | (rw [g_un (by omega), g_un (by omega), g_un (by omega)]; assumption) | ((repeat (rw [g_un (by omega)])); first | exact g_us | assumption)) ?_
          refine r_aload1 dJ1_rotateLeft_40 ?_
          refine f_J1_124_J21 dJ1_rotateLeft_41 (by first | assumption | exact g_us | (rw [g_un (by omega)]; assumption) | (rw [g_un (by omega)]; exact g_us) | (rw [g_un (by omega), g_un (by omega)]; assumption) | (rw [g_un (by omega), g_un (by omega)]; exact g_us) | (rw [g_un (by omega), g_un (by omega), g_un (by omega)]; assumption) | ((repeat (rw [g_un (by omega)])); first | exact g_us | assumption)) ?_
          refine r_ifnonnull (tgt := 55) dJ1_rotateLeft_44 (by decide) ?_
          refine r_aload1 dJ1_rotateLeft_55 ?_
          refine f_J1_124_J21 dJ1_rotateLeft_56 (by first | assumption | exact g_us | (rw [g_un (by omega)]; assumption) | (rw [g_un (by omega)]; exact g_us) | (rw [g_un (by omega), g_un (by omega)]; assumption) | (rw [g_un (by omega), g_un (by omega)]; exact g_us) | (rw [g_un (by omega), g_un (by omega), g_un (by omega)]; assumption) | ((repeat (rw [g_un (by omega)])); first | exact g_us | assumption)) ?_
          refine f_J1_111_J21 dJ1_rotateLeft_59 (by first | assumption | exact g_us | (rw [g_un (by omega)]; assumption) | (rw [g_un (by omega)]; exact g_us) | (rw [g_un (by omega), g_un (by omega)]; assumption) | (rw [g_un (by omega), g_un (by omega)]; exact g_us) | (rw [g_un (by omega), g_un (by omega), g_un (by omega)]; assumption) | ((repeat (rw [g_un (by omega)])); first | exact g_us | assumption)) ?_
          refine r_aload1 dJ1_rotateLeft_62 ?_
          refine r_acmp_ne (tgt := 77) dJ1_rotateLeft_63 (by decide) (fun c63 => ?_) (fun c63 => absurd c63 z2)
          refine r_aload1 dJ1_rotateLeft_77 ?_
          refine f_J1_124_J21 dJ1_rotateLeft_78 (by first | assumption | exact g_us | (rw [g_un (by omega)]; assumption) | (rw [g_un (by omega)]; exact g_us) | (rw [g_un (by omega), g_un (by omega)]; assumption) | (rw [g_un (by omega), g_un (by omega)]; exact g_us) | (rw [g_un (by omega), g_un (by omega), g_un (by omega)]; assumption) | ((repeat (rw [g_un (by omega)])); first | exact g_us | assumption)) ?_
          refine r_aload2 dJ1_rotateLeft_81 ?_
          refine p_J1_114_J21 dJ1_rotateLeft_82 (by omega) (by first | assumption | exact g_us | (rw [g_un (by omega)]; assumption) | (rw [g_un (by omega)]; exact g_us) | (rw [g_un (by omega), g_un (by omega)]; assumption) | (rw [g_un (by omega), g_un (by omega)]; exact g_us) | (rw [g_un (by omega), g_un (by omega), g_un (by omega)]; assumption) | ((repeat (rw [g_un (by omega)])); first | exact g_us | assumption)) ?_
          refine r_aload2 dJ1_rotateLeft_85 ?_
          refine r_aload1 dJ1_rotateLeft_86 ?_
          refine p_J1_111_J21 dJ1_rotateLeft_87 (by omega) (by first | assumption | exact g_us | (rw [g_un (by omega)]; assumption) | (rw [g_un (by omega)]; exact g_us) | (rw [g_un (by omega), g_un (by omega)]; assumption) | (rw [g_un (by omega), g_un (by omega)]; exact g_us) | (rw [g_un (by omega), g_un (by omega), g_un (by omega)]; assumption) | ((repeat (rw [g_un (by omega)])); first | exact g_us | assumption)) ?_
          refine r_aload1 dJ1_rotateLeft_90 ?_
          refine r_aload2 dJ1_rotateLeft_91 ?_
          refine p_J1_124_J21 dJ1_rotateLeft_92 (by omega) (by first | assumption | exact g_us | (rw [g_un (by omega)]; assumption) | (rw [g_un (by omega)]; exact g_us) | (rw [g_un (by omega), g_un (by omega)]; assumption) | (rw [g_un (by omega), g_un (by omega)]; exact g_us) | (rw [g_un (by omega), g_un (by omega), g_un (by omega)]; assumption) | ((repeat (rw [g_un (by omega)])); first | exact g_us | assumption)) ?_
          exact r_return dJ1_rotateLeft_95 rfl (⟨rot_of (by (repeat (rw [g_un (by omega)])); exact g_us) (by (repeat (rw [g_un (by omega)])); exact g_us) (Or.inr ⟨b, kb, vb, lb, rb, cb, rfl, hb, by (repeat (rw [g_un (by omega)])); exact g_us⟩) (Or.inr ⟨e, true, ke, ve, _, qe, ce, rfl, (fun e0 => by cases e0; exact z2 rfl), he, by (repeat (rw [g_un (by omega)])); exact g_us⟩) (fun z z1 z2 z3 z4 z5 => by have z6 : z ≠ b := fun e0 => z3 (by rw [e0]); have z7 : z ≠ e := fun e0 => z4 (by rw [e0]); repeat (rw [g_un (by omega)])), rfl⟩)
theorem k_rotR {mp y : Nat} {t sz mc nk ky vy yl yr q : Value} {cy : Bool} (bm : k_b K ≤ mp) (bp : k_b K ≤ a) (by0 : k_b K ≤ y) (hm : h mp = some (trM t sz mc nk)) (hp : h a = some (trS true k v l (.ref y) q c)) (hy : h y = some (trS true ky vy yl yr (.ref a) cy)) (py : a ≠ y)
    (fb : yl = .null ∨ ∃ (b : Nat) (kb vb lb rb : Value) (cb : Bool), yl = .ref b ∧ h b = some (nC kb vb lb rb (.ref y) cb) ∧ b ≠ a ∧ b ≠ y ∧ k_b K ≤ b ∧ q ≠ .ref b)
    (fq : q = .null ∨ ∃ (e : Nat) (s : Bool) (ke ve o qe : Value) (ce : Bool), q = .ref e ∧ h e = some (trS s ke ve (.ref a) o qe ce) ∧ e ≠ a ∧ e ≠ y ∧ k_b K ≤ e ∧ (o = .null ∨ ∃ z, o = .ref z ∧ z ≠ a)) : g_Met K mJ1_rotateRight 0 0 0 [.ref mp, .ref a] h n (gV fun h' n' => rot true h h' mp sz mc nk a y k v l c ky vy yl yr cy q ∧ n' = n) gN := by
  have m1 : mp ≠ a := fun e => by rw [e, hp] at hm; exact trne hm
  have m2 : mp ≠ y := fun e => by rw [e, hy] at hm; exact trne hm
  have hp : h a = some (nC k v (.ref y) l q c) := hp
  have hy : h y = some (nC ky vy yr yl (.ref a) cy) := hy
  refine g_Met.of (M := mJ1_rotateRight) (L := [some (.ref mp), some (.ref a), none]) (by decide +kernel) (Nat.le_of_ble_eq_true rfl) rfl ?_

  rcases fb with rfl | ⟨b, kb, vb, lb, rb, cb, rfl, hb, b1, b2, b3, b4⟩
  · rcases fq with rfl | ⟨e, s, ke, ve, w, qe, ce, rfl, he, e1, e2, e3, e4⟩
    · skip
      skip
      refine r_aload1 dJ1_rotateRight_0 ?_
      refine r_ifnull dJ1_rotateRight_1 ?_
      refine r_aload1 dJ1_rotateRight_4 ?_
      refine f_J1_111_J21 dJ1_rotateRight_5 (by first | assumption | exact g_us | (rw [g_un (by omega)]; assumption) | (rw [g_un (by omega)]; exact g_us) | (rw [g_un (by omega), g_un (by omega)]; assumption) | (rw [g_un (by omega), g_un (by omega)]; exact g_us) | (rw [g_un (by omega), g_un (by omega), g_un (by omega)]; assumption) | ((repeat (rw [g_un (by omega)])); first | exact g_us | assumption)) ?_
      refine r_astore2 dJ1_rotateRight_8 ?_
      refine r_aload1 dJ1_rotateRight_9 ?_
      refine r_aload2 dJ1_rotateRight_10 ?_
      refine f_J1_114_J21 dJ1_rotateRight_11 (by first | assumption | exact g_us | (rw [g_un (by omega)]; assumption) | (rw [g_un (by omega)]; exact g_us) | (rw [g_un (by omega), g_un (by omega)]; assumption) | (rw [g_un (by omega), g_un (by omega)]; exact g_us) | (rw [g_un (by omega), g_un (by omega), g_un (by omega)]; assumption) | ((repeat (rw [g_un (by omega)])); first | exact g_us | assumption)) ?_
      refine p_J1_111_J21 dJ1_rotateRight_14 (by omega) (by first | assumption | exact g_us | (rw [g_un (by omega)]; assumption) | (rw [g_un (by omega)]; exact g_us) | (rw [g_un (by omega), g_un (by omega)]; assumption) | (rw [g_un (by omega), g_un (by omega)]; exact g_us) | (rw [g_un (by omega), g_un (by omega), g_un (by omega)]; assumption) | ((repeat (rw [g_un (by omega)])); first | exact g_us | assumption)) ?_
      refine r_aload2 dJ1_rotateRight_17 ?_
      refine f_J1_114_J21 dJ1_rotateRight_18 (by first | assumption | exact g_us | (rw [g_un (by omega)]; assumption) | (rw [g_un (by omega)]; exact g_us) | (rw [g_un (by omega), g_un (by omega)]; assumption) | (rw [g_un (by omega), g_un (by omega)]; exact g_us) | (rw [g_un (by omega), g_un (by omega), g_un (by omega)]; assumption) | ((repeat (rw [g_un (by omega)])); first | exact g_us | assumption)) ?_
      refine r_ifnullZ (tgt := 32) dJ1_rotateRight_21 (by decide) ?_
      refine r_aload2 dJ1_rotateRight_32 ?_
      refine r_aload1 dJ1_rotateRight_33 ?_
      refine f_J1_124_J21 dJ1_rotateRight_34 (by first | assumption | exact g_us | (rw [g_un (by omega)]; assumption) | (rw [g_un (by omega)]; exact g_us) | (rw [g_un (by omega), g_un (by omega)]; assumption) | (rw [g_un (by omega), g_un (by omega)]; exact g_us) | (rw [g_un (by omega), g_un (by omega), g_un (by omega)]; assumption) | ((repeat (rw [g_un (by omega)])); first | exact g_us | assumption)) ?_
      refine p_J1_124_J21 dJ1_rotateRight_37 (by omega) (by first | assumption | exact g_us | (rw [g_un (by omega)]; assumption) | (rw [g_un (by omega)]; exact g_us) | (rw [g_un (by omega), g_un (by omega)]; assumption) | (rw [g_un (by omega), g_un (by omega)]; exact g_us) | (rw [g_un (by omega), g_un (by omega), g_un (by omega)]; assumption) | ((repeat (rw [g_un (by omega)])); first | exact g_us | assumption)) ?_
      refine r_aload1 dJ1_rotateRight_40 ?_
      refine f_J1_124_J21 dJ1_rotateRight_41 (by first | assumption | exact g_us | (rw [g_un (by omega)]; assumption) | (rw [g_un (by omega)]; exact g_us) | (rw [g_un (by omega), g_un (by omega)]; assumption) | (rw [g_un (by omega), g_un (by omega)]; exact g_us) | (rw [g_un (by omega), g_un (by omega), g_un (by omega)]; assumption) | ((repeat (rw [g_un (by omega)])); first | exact g_us | assumption)) ?_
      refine r_ifnonnullZ dJ1_rotateRight_44 ?_
      refine r_aload0 dJ1_rotateRight_47 ?_
      refine r_aload2 dJ1_rotateRight_48 ?_
      refine p_J1_101_J1 dJ1_rotateRight_49 (by omega) (by first | assumption | exact g_us | (rw [g_un (by omega)]; assumption) | (rw [g_un (by omega)]; exact g_us) | (rw [g_un (by omega), g_un (by omega)]; assumption) | (rw [g_un (by omega), g_un (by omega)]; exact g_us) | (rw [g_un (by omega), g_un (by omega), g_un (by omega)]; assumption) | ((repeat (rw [g_un (by omega)])); first | exact g_us | assumption)) ?_
      refine r_goto (tgt := 85) dJ1_rotateRight_52 (by decide) ?_
      refine r_aload2 dJ1_rotateRight_85 ?_
      refine r_aload1 dJ1_rotateRight_86 ?_
      refine p_J1_114_J21 dJ1_rotateRight_87 (by omega) (by first | assumption | exact g_us | (rw [g_un (by omega)]; assumption) | (rw [g_un (by omega)]; exact g_us) | (rw [g_un (by omega), g_un (by omega)]; assumption) | (rw [g_un (by omega), g_un (by omega)]; exact g_us) | (rw [g_un (by omega), g_un (by omega), g_un (by omega)]; assumption) | ((repeat (rw [g_un (by omega)])); first | exact g_us | assumption)) ?_
      refine r_aload1 dJ1_rotateRight_90 ?_
      refine r_aload2 dJ1_rotateRight_91 ?_
      refine p_J1_124_J21 dJ1_rotateRight_92 (by omega) (by first | assumption | exact g_us | (rw [g_un (by omega)]; assumption) | (rw [g_un (by omega)]; exact g_us) | (rw [g_un (by omega), g_un (by omega)]; assumption) | (rw [g_un (by omega), g_un (by omega)]; exact g_us) | (rw [g_un (by omega), g_un (by omega), g_un (by omega)]; assumption) | ((repeat (rw [g_un (by omega)])); first | exact g_us | assumption)) ?_
      exact r_return dJ1_rotateRight_95 rfl (⟨rot_of (by (repeat (rw [g_un (by omega)])); exact g_us) (by (repeat (rw [g_un (by omega)])); exact g_us) (Or.inl rfl) (Or.inl ⟨rfl, by (repeat (rw [g_un (by omega)])); exact g_us⟩) (fun z z1 z2 z3 z4 z5 => by skip; have z7 : z ≠ mp := z5 rfl; repeat (rw [g_un (by omega)])), rfl⟩)
    · have m4 : mp ≠ e := fun e0 => by rw [e0, he] at hm; exact trne hm
      cases s
      · have he : h e = some (nC ke ve (.ref a) w qe ce) := he
        rcases e4 with rfl | ⟨z, rfl, z2⟩
        · skip
          skip
          refine r_aload1 dJ1_rotateRight_0 ?_
          refine r_ifnull dJ1_rotateRight_1 ?_
          refine r_aload1 dJ1_rotateRight_4 ?_
          refine f_J1_111_J21 dJ1_rotateRight_5 (by first | assumption | exact g_us | (rw [g_un (by omega)]; assumption) | (rw [g_un (by omega)]; exact g_us) | (rw [g_un (by omega), g_un (by omega)]; assumption) | (rw [g_un (by omega), g_un (by omega)]; exact g_us) | (rw [g_un (by omega), g_un (by omega), g_un (by omega)]; assumption) | ((repeat (rw [g_un (by omega)])); first | exact g_us | assumption)) ?_
          refine r_astore2 dJ1_rotateRight_8 ?_
          refine r_aload1 dJ1_rotateRight_9 ?_
          refine r_aload2 dJ1_rotateRight_10 ?_
          refine f_J1_114_J21 dJ1_rotateRight_11 (by first | assumption | exact g_us | (rw [g_un (by omega)]; assumption) | (rw [g_un (by omega)]; exact g_us) | (rw [g_un (by omega), g_un (by omega)]; assumption) | (rw [g_un (by omega), g_un (by omega)]; exact g_us) | (rw [g_un (by omega), g_un (by omega), g_un (by omega)]; assumption) | ((repeat (rw [g_un (by omega)])); first | exact g_us | assumption)) ?_
          refine p_J1_111_J21 dJ1_rotateRight_14 (by omega) (by first | assumption | exact g_us | (rw [g_un (by omega)]; assumption) | (rw [g_un (by omega)]; exact g_us) | (rw [g_un (by omega), g_un (by omega)]; assumption) | (rw [g_un (by omega), g_un (by omega)]; exact g_us) | (rw [g_un (by omega), g_un (by omega), g_un (by omega)]; assumption) | ((repeat (rw [g_un (by omega)])); first | exact g_us | assumption)) ?_
          refine r_aload2 dJ1_rotateRight_17 ?_
          refine f_J1_114_J21 dJ1_rotateRight_18 (by first | assumption | exact g_us | (rw [g_un (by omega)]; assumption) | (rw [g_un (by omega)]; exact g_us) | (rw [g_un (by omega), g_un (by omega)]; assumption) | (rw [g_un (by omega), g_un (by omega)]; exact g_us) | (rw [g_un (by omega), g_un (by omega), g_un (by omega)]; assumption) | ((repeat (rw [g_un (by omega)])); first | exact g_us | assumption)) ?_
          refine r_ifnullZ (tgt := 32) dJ1_rotateRight_21 (by decide) ?_
          refine r_aload2 dJ1_rotateRight_32 ?_
          refine r_aload1 dJ1_rotateRight_33 ?_
          refine f_J1_124_J21 dJ1_rotateRight_34 (by first | assumption | exact g_us | (rw [g_un (by omega)]; assumption) | (rw [g_un (by omega)]; exact g_us) | (rw [g_un (by omega), g_un (by omega)]; assumption) | (rw [g_un (by omega), g_un (by omega)]; exact g_us) | (rw [g_un (by omega), g_un (by omega), g_un (by omega)]; assumption) | ((repeat (rw [g_un (by omega)])); first | exact g_us | assumption)) ?_
          refine p_J1_124_J21 dJ1_rotateRight_37 (by omega) (by first | assumption | exact g_us | (rw [g_un (by omega)]; assumption) | (rw [g_un (by omega)]; exact g_us) | (rw [g_un (by omega), g_un (by omega)]; assumption) | (rw [g_un (by omega), g_un (by omega)]; exact g_us) | (rw [g_un (by omega), g_un (by omega), g_un (by omega)]; assumption) | ((repeat (rw [g_un (by omega)])); first | exact g_us | assumption)) ?_
          refine r_aload1 dJ1_rotateRight_40 ?_
          refine f_J1_124_J21 dJ1_rotateRight_41 (by first | assumption | exact g_us | (rw [g_un (by omega)]; assumption) | (rw [g_un (by omega)]; exact g_us) | (rw [g_un (by omega), g_un (by omega)]; assumption) | (rw [g_un (by omega), g_un (by omega)]; exact g_us) | (rw [g_un (by omega), g_un (by omega), g_un (by omega)]; assumption) | ((repeat (rw [g_un (by omega)])); first | exact g_us | assumption)) ?_
          refine r_ifnonnull (tgt := 55) dJ1_rotateRight_44 (by decide) ?_
          refine r_aload1 dJ1_rotateRight_55 ?_
          refine f_J1_124_J21 dJ1_rotateRight_56 (by first | assumption | exact g_us | (rw [g_un (by omega)]; assumption) | (rw [g_un (by omega)]; exact g_us) | (rw [g_un (by omega), g_un (by omega)]; assumption) | (rw [g_un (by omega), g_un (by omega)]; exact g_us) | (rw [g_un (by omega), g_un (by omega), g_un (by omega)]; assumption) | ((repeat (rw [g_un (by omega)])); first | exact g_us | assumption)) ?_
          refine f_J1_114_J21 dJ1_rotateRight_59 (by first | assumption | exact g_us | (rw [g_un (by omega)]; assumption) | (rw [g_un (by omega)]; exact g_us) | (rw [g_un (by omega), g_un (by omega)]; assumption) | (rw [g_un (by omega), g_un (by omega)]; exact g_us) | (rw [g_un (by omega), g_un (by omega), g_un (by omega)]; assumption) | ((repeat (rw [g_un (by omega)])); first | exact g_us | assumption)) ?_
          refine r_aload1 dJ1_rotateRight_62 ?_
          refine r_acmp_neZR (tgt := 77) dJ1_rotateRight_63 (by decide) ?_
          refine r_aload1 dJ1_rotateRight_77 ?_
          refine f_J1_124_J21 dJ1_rotateRight_78 (by first | assumption | exact g_us | (rw [g_un (by omega)]; assumption) | (rw [g_un (by omega)]; exact g_us) | (rw [g_un (by omega), g_un (by omega)]; assumption) | (rw [g_un (by omega), g_un (by omega)]; exact g_us) | (rw [g_un (by omega), g_un (by omega), g_un (by omega)]; assumption) | ((repeat (rw [g_un (by omega)])); first | exact g_us | assumption)) ?_
          refine r_aload2 dJ1_rotateRight_81 ?_
          refine p_J1_111_J21 dJ1_rotateRight_82 (by omega) (by first | assumption | exact g_us | (rw [g_un (by omega)]; assumption) | (rw [g_un (by omega)]; exact g_us) | (rw [g_un (by omega), g_un (by omega)]; assumption) | (rw [g_un (by omega), g_un (by omega)]; exact g_us) | (rw [g_un (by omega), g_un (by omega), g_un (by omega)]; assumption) | ((repeat (rw [g_un (by omega)])); first | exact g_us | assumption)) ?_
          refine r_aload2 dJ1_rotateRight_85 ?_
          refine r_aload1 dJ1_rotateRight_86 ?_
          refine p_J1_114_J21 dJ1_rotateRight_87 (by omega) (by first | assumption | exact g_us | (rw [g_un (by omega)]; assumption) | (rw [g_un (by omega)]; exact g_us) | (rw [g_un (by omega), g_un (by omega)]; assumption) | (rw [g_un (by omega), g_un (by omega)]; exact g_us) | (rw [g_un (by omega), g_un (by omega), g_un (by omega)]; assumption) | ((repeat (rw [g_un (by omega)])); first | exact g_us | assumption)) ?_
          refine r_aload1 dJ1_rotateRight_90 ?_
          refine r_aload2 dJ1_rotateRight_91 ?_
          refine p_J1_124_J21 dJ1_rotateRight_92 (by omega) (by first | assumption | exact g_us | (rw [g_un (by omega)]; assumption) | (rw [g_un (by omega)]; exact g_us) | (rw [g_un (by omega), g_un (by omega)]; assumption) | (rw [g_un (by omega), g_un (by omega)]; exact g_us) | (rw [g_un (by omega), g_un (by omega), g_un (by omega)]; assumption) | ((repeat (rw [g_un (by omega)])); first | exact g_us | assumption)) ?_
          exact r_return dJ1_rotateRight_95 rfl (⟨rot_of (by (repeat (rw [g_un (by omega)])); exact g_us) (by (repeat (rw [g_un (by omega)])); exact g_us) (Or.inl rfl) (Or.inr ⟨e, false, ke, ve, _, qe, ce, rfl, (fun e0 => by cases e0), he, by (repeat (rw [g_un (by omega)])); exact g_us⟩) (fun z z1 z2 z3 z4 z5 => by skip; have z7 : z ≠ e := fun e0 => z4 (by rw [e0]); repeat (rw [g_un (by omega)])), rfl⟩)
        · skip
          skip
          refine r_aload1 dJ1_rotateRight_0 ?_
          refine r_ifnull dJ1_rotateRight_1 ?_
          refine r_aload1 dJ1_rotateRight_4 ?_
          refine f_J1_111_J21 dJ1_rotateRight_5 (by first | assumption | exact g_us | (rw [g_un (by omega)]; assumption) | (rw [g_un (by omega)]; exact g_us) | (rw [g_un (by omega), g_un (by omega)]; assumption) | (rw [g_un (by omega), g_un (by omega)]; exact g_us) | (rw [g_un (by omega), g_un (by omega), g_un (by omega)]; assumption) | ((repeat (rw [g_un (by omega)])); first | exact g_us | assumption)) ?_
          refine r_astore2 dJ1_rotateRight_8 ?_
          refine r_aload1 dJ1_rotateRight_9 ?_
          refine r_aload2 dJ1_rotateRight_10 ?_
          refine f_J1_114_J21 dJ1_rotateRight_11 (by first | assumption | exact g_us | (rw [g_un (by omega)]; assumption) | (rw [g_un (by omega)]; exact g_us) | (rw [g_un (by omega), g_un (by omega)]; assumption) | (rw [g_un (by omega), g_un (by omega)]; exact g_us) | (rw [g_un (by omega), g_un (by omega), g_un (by omega)]; assumption) | ((repeat (rw [g_un (by omega)])); first | exact g_us | assumption)) ?_
          refine p_J1_111_J21 dJ1_rotateRight_14 (by omega) (by first | assumption | exact g_us | (rw [g_un (by omega)]; assumption) | (rw [g_un (by omega)]; exact g_us) | (rw [g_un (by omega), g_un (by omega)]; assumption) | (rw [g_un (by omega), g_un (by omega)]; exact g_us) | (rw [g_un (by omega), g_un (by omega), g_un (by omega)]; assumption) | ((repeat (rw [g_un (by omega)])); first | exact g_us | assumption)) ?_
          refine r_aload2 dJ1_rotateRight_17 ?_
          refine f_J1_114_J21 dJ1_rotateRight_18 (by first | assumption | exact g_us | (rw [g_un (by omega)]; assumption) | (rw [g_un (by omega)]; exact g_us) | (rw [g_un (by omega), g_un (by omega)]; assumption) | (rw [g_un (by omega), g_un (by omega)]; exact g_us) | (rw [g_un (by omega), g_un (by omega), g_un (by omega)]; assumption) | ((repeat (rw [g_un (by omega)])); first | exact g_us | assumption)) ?_
          refine r_ifnullZ (tgt := 32) dJ1_rotateRight_21 (by decide) ?_
          refine r_aload2 dJ1_rotateRight_32 ?_
          refine r_aload1 dJ1_rotateRight_33 ?_
          refine f_J1_124_J21 dJ1_rotateRight_34 (by first | assumption | exact g_us | (rw [g_un (by omega)]; assumption) | (rw [g_un (by omega)]; exact g_us) | (rw [g_un (by omega), g_un (by omega)]; assumption) | (rw [g_un (by omega), g_un (by omega)]; exact g_us) | (rw [g_un (by omega), g_un (by omega), g_un (by omega)]; assumption) | ((repeat (rw [g_un (by omega)])); first | exact g_us | assumption)) ?_
          refine p_J1_124_J21 dJ1_rotateRight_37 (by omega) (by first | assumption | exact g_us | (rw [g_un (by omega)]; assumption) | (rw [g_un (by omega)]; exact g_us) | (rw [g_un (by omega), g_un (by omega)]; assumption) | (rw [g_un (by omega), g_un (by omega)]; exact g_us) | (rw [g_un (by omega), g_un (by omega), g_un (by omega)]; assumption) | ((repeat (rw [g_un (by omega)])); first | exact g_us | assumption)) ?_
          refine r_aload1 dJ1_rotateRight_40 ?_
          refine f_J1_124_J21 dJ1_rotateRight_41 (by first | assumption | exact g_us | (rw [g_un (by omega)]; assumption) | (rw [g_un (by omega)]; exact g_us) | (rw [g_un (by omega), g_un (by omega)]; assumption) | (rw [g_un (by omega), g_un (by omega)]; exact g_us) | (rw [g_un (by omega), g_un (by omega), g_un (by omega)]; assumption) | ((repeat (rw [g_un (by omega)])); first | exact g_us | assumption)) ?_
          refine r_ifnonnull (tgt := 55) dJ1_rotateRight_44 (by decide) ?_
          refine r_aload1 dJ1_rotateRight_55 ?_
          refine f_J1_124_J21 dJ1_rotateRight_56 (by first | assumption | exact g_us | (rw [g_un (by omega)]; assumption) | (rw [g_un (by omega)]; exact g_us) | (rw [g_un (by omega), g_un (by omega)]; assumption) | (rw [g_un (by omega), g_un (by omega)]; exact g_us) | (rw [g_un (by omega), g_un (by omega), g_un (by omega)]; assumption) | ((repeat (rw [g_un (by omega)])); first | exact g_us | assumption)) ?_
          refine f_J1_114_J21 dJ1_rotateRight_59 (by first | assumption | exact g_us | (rw [g_un (by omega)]; assumption) | (rw [g_un (by omega)]; exact g_us) | (rw [g_un (by omega), g_un (by omega)]; assumption) | (rw [g_un (by omega), g_un (by omega)]; exact g_us) | (rw [g_un (by omega), g_un (by omega), g_un (by omega)]; assumption) | ((repeat (rw [g_un (by omega)])); first | exact g_us | assumption)) ?_
          refine r_aload1 dJ1_rotateRight_62 ?_
          refine r_acmp_ne (tgt := 77) dJ1_rotateRight_63 (by decide) (fun c63 => ?_) (fun c63 => absurd c63 z2)
          refine r_aload1 dJ1_rotateRight_77 ?_
          refine f_J1_124_J21 dJ1_rotateRight_78 (by first | assumption | exact g_us | (rw [g_un (by omega)]; assumption) | (rw [g_un (by omega)]; exact g_us) | (rw [g_un (by omega), g_un (by omega)]; assumption) | (rw [g_un (by omega), g_un (by omega)]; exact g_us) | (rw [g_un (by omega), g_un (by omega), g_un (by omega)]; assumption) | ((repeat (rw [g_un (by omega)])); first | exact g_us | assumption)) ?_
          refine r_aload2 dJ1_rotateRight_81 ?_
          refine p_J1_111_J21 dJ1_rotateRight_82 (by omega) (by first | assumption | exact g_us | (rw [g_un (by omega)]; assumption) | (rw [g_un (by omega)]; exact g_us) | (rw [g_un (by omega), g_un (by omega)]; assumption) | (rw [g_un (by omega), g_un (by omega)]; exact g_us) | (rw [g_un (by omega), g_un (by omega), g_un (by omega)]; assumption) | ((repeat (rw [g_un (by omega)])); first | exact g_us | assumption)) ?_
          refine r_aload2 dJ1_rotateRight_85 ?_
          refine r_aload1 dJ1_rotateRight_86 ?_
          refine p_J1_114_J21 dJ1_rotateRight_87 (by omega) (by first | assumption | exact g_us | (rw [g_un (by omega)]; assumption) | (rw [g_un (by omega)]; exact g_us) | (rw [g_un (by omega), g_un (by omega)]; assumption) | (rw [g_un (by omega), g_un (by omega)]; exact g_us) | (rw [g_un (by omega), g_un (by omega), g_un (by omega)]; assumption) | ((repeat (rw [g_un (by omega)])); first | exact g_us | assumption)) ?_
          refine r_aload1 dJ1_rotateRight_90 ?_
          refine r_aload2 dJ1_rotateRight_91 ?_
          refine p_J1_124_J21 dJ1_rotateRight_92 (by omega) (by first | assumption | exact g_us | (rw [g_un (by omega)]; assumption) | (rw [g_un (by omega)]; exact g_us) | (rw [g_un (by omega), g_un (by omega)]; assumption) | (rw [g_un (by omega), g_un (by omega)]; exact g_us) | (rw [g_un (by omega), g_un (by omega), g_un (by omega)]; assumption) | ((repeat (rw [g_un (by omega)])); first | exact g_us | assumption)) ?_
          exact r_return dJ1_rotateRight_95 rfl (⟨rot_of (by (repeat (rw [g_un (by omega)])); exact g_us) (by (repeat (rw [g_un (by omega)])); exact g_us) (Or.inl rfl) (Or.inr ⟨e, false, ke, ve, _, qe, ce, rfl, (fun e0 => by cases e0; exact z2 rfl), he, by (repeat (rw [g_un (by omega)])); exact g_us⟩) (fun z z1 z2 z3 z4 z5 => by skip; have z7 : z ≠ e := fun e0 => z4 (by rw [e0]); repeat (rw [g_un (by omega)])), rfl⟩)
      · have he : h e = some (nC ke ve w (.ref a) qe ce) := he
        have ho9 : w ≠ .ref a := by rcases e4 with rfl | ⟨z, rfl, z2⟩
                                    · intro e0; cases e0
                                    · intro e0; cases e0; exact z2 rfl
        skip
        refine r_aload1 dJ1_rotateRight_0 ?_
        refine r_ifnull dJ1_rotateRight_1 ?_
        refine r_aload1 dJ1_rotateRight_4 ?_
        refine f_J1_111_J21 dJ1_rotateRight_5 (by first | assumption | exact g_us | (rw [g_un (by omega)]; assumption) | (rw [g_un (by omega)]; exact g_us) | (rw [g_un (by omega), g_un (by omega)]; assumption) | (rw [g_un (by omega), g_un (by omega)]; exact g_us) | (rw [g_un (by omega), g_un (by omega), g_un (by omega)]; assumption) | ((repeat (rw [g_un (by omega)])); first | exact g_us | assumption)) ?_
        refine r_astore2 dJ1_rotateRight_8 ?_
        refine r_aload1 dJ1_rotateRight_9 ?_
        refine r_aload2 dJ1_rotateRight_10 ?_
        refine f_J1_114_J21 dJ1_rotateRight_11 (by first | assumption | exact g_us | (rw [g_un (by omega)]; assumption) | (rw [g_un (by omega)]; exact g_us) | (rw [g_un (by omega), g_un (by omega)]; assumption) | (rw [g_un (by omega), g_un (by omega)]; exact g_us) | (rw [g_un (by omega), g_un (by omega), g_un (by omega)]; assumption) | ((repeat (rw [g_un (by omega)])); first | exact g_us | assumption)) ?_
        refine p_J1_111_J21 dJ1_rotateRight_14 (by omega) (by first | assumption | exact g_us | (rw [g_un (by omega)]; assumption) | (rw [g_un (by omega)]; exact g_us) | (rw [g_un (by omega), g_un (by omega)]; assumption) | (rw [g_un (by omega), g_un (by omega)]; exact g_us) | (rw [g_un (by omega), g_un (by omega), g_un (by omega)]; assumption) | ((repeat (rw [g_un (by omega)])); first | exact g_us | assumption)) ?_
        refine r_aload2 dJ1_rotateRight_17 ?_
        refine f_J1_114_J21 dJ1_rotateRight_18 (by first | assumption | exact g_us | (rw [g_un (by omega)]; assumption) | (rw [g_un (by omega)]; exact g_us) | (rw [g_un (by omega), g_un (by omega)]; assumption) | (rw [g_un (by omega), g_un (by omega)]; exact g_us) | (rw [g_un (by omega), g_un (by omega), g_un (by omega)]; assumption) | ((repeat (rw [g_un (by omega)])); first | exact g_us | assumption)) ?_
        refine r_ifnullZ (tgt := 32) dJ1_rotateRight_21 (by decide) ?_
        refine r_aload2 dJ1_rotateRight_32 ?_
        refine r_aload1 dJ1_rotateRight_33 ?_
        refine f_J1_124_J21 dJ1_rotateRight_34 (by first | assumption | exact g_us | (rw [g_un (by omega)]; assumption) | (rw [g_un (by omega)]; exact g_us) | (rw [g_un (by omega), g_un (by omega)]; assumption) | (rw [g_un (by omega), g_un (by omega)]; exact g_us) | (rw [g_un (by omega), g_un (by omega), g_un (by omega)]; assumption) | ((repeat (rw [g_un (by omega)])); first | exact g_us | assumption)) ?_
        refine p_J1_124_J21 dJ1_rotateRight_37 (by omega) (by first | assumption | exact g_us | (rw [g_un (by omega)]; assumption) | (rw [g_un (by omega)]; exact g_us) | (rw [g_un (by omega), g_un (by omega)]; assumption) | (rw [g_un (by omega), g_un (by omega)]; exact g_us) | (rw [g_un (by omega), g_un (by omega), g_un (by omega)]; assumption) | ((repeat (rw [g_un (by omega)])); first | exact g_us | assumption)) ?_
        refine r_aload1 dJ1_rotateRight_40 ?_
        refine f_J1_124_J21 dJ1_rotateRight_41 (by first | assumption | exact g_us | (rw [g_un (by omega)]; assumption) | (rw [g_un (by omega)]; exact g_us) | (rw [g_un (by omega), g_un (by omega)]; assumption) | (rw [g_un (by omega), g_un (by omega)]; exact g_us) | (rw [g_un (by omega), g_un (by omega), g_un (by omega)]; assumption) | ((repeat (rw [g_un (by omega)])); first | exact g_us | assumption)) ?_
        refine r_ifnonnull (tgt := 55) dJ1_rotateRight_44 (by decide) ?_
        refine r_aload1 dJ1_rotateRight_55 ?_
        refine f_J1_124_J21 dJ1_rotateRight_56 (by first | assumption | exact g_us | (rw [g_un (by omega)]; assumption) | (rw [g_un (by omega)]; exact g_us) | (rw [g_un (by omega), g_un (by omega)]; assumption) | (rw [g_un (by omega), g_un (by omega)]; exact g_us) | (rw [g_un (by omega), g_un (by omega), g_un (by omega)]; assumption) | ((repeat (rw [g_un (by omega)])); first | exact g_us | assumption)) ?_
        refine f_J1_114_J21 dJ1_rotateRight_59 (by first | assumption | exact g_us | (rw [g_un (by omega)]; assumption) | (rw [g_un (by omega)]; exact g_us) | (rw [g_un (by omega), g_un (by omega)]; assumption) | (rw [g_un (by omega), g_un (by omega)]; exact g_us) | (rw [g_un (by omega), g_un (by omega), g_un (by omega)]; assumption) | ((repeat (rw [g_un (by omega)])); first | exact g_us | assumption)) ?_
        refine r_aload1 dJ1_rotateRight_62 ?_
        refine r_acmp_ne (tgt := 77) dJ1_rotateRight_63 (by decide) (fun c63 => absurd c63 ((fun z => z rfl))) (fun c63 => ?_)
        refine r_aload1 dJ1_rotateRight_66 ?_
        refine f_J1_124_J21 dJ1_rotateRight_67 (by first | assumption | exact g_us | (rw [g_un (by omega)]; assumption) | (rw [g_un (by omega)]; exact g_us) | (rw [g_un (by omega), g_un (by omega)]; assumption) | (rw [g_un (by omega), g_un (by omega)]; exact g_us) | (rw [g_un (by omega), g_un (by omega), g_un (by omega)]; assumption) | ((repeat (rw [g_un (by omega)])); first | exact g_us | assumption)) ?_
        refine r_aload2 dJ1_rotateRight_70 ?_
        refine p_J1_114_J21 dJ1_rotateRight_71 (by omega) (by first | assumption | exact g_us | (rw [g_un (by omega)]; assumption) | (rw [g_un (by omega)]; exact g_us) | (rw [g_un (by omega), g_un (by omega)]; assumption) | (rw [g_un (by omega), g_un (by omega)]; exact g_us) | (rw [g_un (by omega), g_un (by omega), g_un (by omega)]; assumption) | ((repeat (rw [g_un (by omega)])); first | exact g_us | assumption)) ?_
        refine r_goto (tgt := 85) dJ1_rotateRight_74 (by decide) ?_
        refine r_aload2 dJ1_rotateRight_85 ?_
        refine r_aload1 dJ1_rotateRight_86 ?_
        refine p_J1_114_J21 dJ1_rotateRight_87 (by omega) (by first | assumption | exact g_us | (rw [g_un (by omega)]; assumption) | (rw [g_un (by omega)]; exact g_us) | (rw [g_un (by omega), g_un (by omega)]; assumption) | (rw [g_un (by omega), g_un (by omega)]; exact g_us) | (rw [g_un (by omega), g_un (by omega), g_un (by omega)]; assumption) | ((repeat (rw [g_un (by omega)])); first | exact g_us | assumption)) ?_
        refine r_aload1 dJ1_rotateRight_90 ?_
        refine r_aload2 dJ1_rotateRight_91 ?_
        refine p_J1_124_J21 dJ1_rotateRight_92 (by omega) (by first | assumption | exact g_us | (rw [g_un (by omega)]; assumption) | (rw [g_un (by omega)]; exact g_us) | (rw [g_un (by omega), g_un (by omega)]; assumption) | (rw [g_un (by omega), g_un (by omega)]; exact g_us) | (rw [g_un (by omega), g_un (by omega), g_un (by omega)]; assumption) | ((repeat (rw [g_un (by omega)])); first | exact g_us | assumption)) ?_
        exact r_return dJ1_rotateRight_95 rfl (⟨rot_of (by (repeat (rw [g_un (by omega)])); exact g_us) (by (repeat (rw [g_un (by omega)])); exact g_us) (Or.inl rfl) (Or.inr ⟨e, true, ke, ve, _, qe, ce, rfl, ho9, he, by (repeat (rw [g_un (by omega)])); exact g_us⟩) (fun z z1 z2 z3 z4 z5 => by skip; have z7 : z ≠ e := fun e0 => z4 (by rw [e0]); repeat (rw [g_un (by omega)])), rfl⟩)
  · have m3 : mp ≠ b := fun e => by rw [e, hb] at hm; exact trne (s := false) hm
    rcases fq with rfl | ⟨e, s, ke, ve, w, qe, ce, rfl, he, e1, e2, e3, e4⟩
    · skip
      skip
      refine r_aload1 dJ1_rotateRight_0 ?_
      refine r_ifnull dJ1_rotateRight_1 ?_
      refine r_aload1 dJ1_rotateRight_4 ?_
      refine f_J1_111_J21 dJ1_rotateRight_5 (by first | assumption | exact g_us | (rw [g_un (by omega)]; assumption) | (rw [g_un (by omega)]; exact g_us) | (rw [g_un (by omega), g_un (by omega)]; assumption) | (rw [g_un (by omega), g_un (by omega)]; exact g_us) | (rw [g_un (by omega), g_un (by omega), g_un (by omega)]; assumption) | ((repeat (rw [g_un (by omega)])); first | exact g_us | assumption)) ?_
      refine r_astore2 dJ1_rotateRight_8 ?_
      refine r_aload1 dJ1_rotateRight_9 ?_
      refine r_aload2 dJ1_rotateRight_10 ?_
      refine f_J1_114_J21 dJ1_rotateRight_11 (by first | assumption | exact g_us | (rw [g_un (by omega)]; assumption) | (rw [g_un (by omega)]; exact g_us) | (rw [g_un (by omega), g_un (by omega)]; assumption) | (rw [g_un (by omega), g_un (by omega)]; exact g_us) | (rw [g_un (by omega), g_un (by omega), g_un (by omega)]; assumption) | ((repeat (rw [g_un (by omega)])); first | exact g_us | assumption)) ?_
      refine p_J1_111_J21 dJ1_rotateRight_14 (by omega) (by first | assumption | exact g_us | (rw [g_un (by omega)]; assumption) | (rw [g_un (by omega)]; exact g_us) | (rw [g_un (by omega), g_un (by omega)]; assumption) | (rw [g_un (by omega), g_un (by omega)]; exact g_us) | (rw [g_un (by omega), g_un (by omega), g_un (by omega)]; assumption) | ((repeat (rw [g_un (by omega)])); first | exact g_us | assumption)) ?_
      refine r_aload2 dJ1_rotateRight_17 ?_
      refine f_J1_114_J21 dJ1_rotateRight_18 (by first | assumption | exact g_us | (rw [g_un (by omega)]; assumption) | (rw [g_un (by omega)]; exact g_us) | (rw [g_un (by omega), g_un (by omega)]; assumption) | (rw [g_un (by omega), g_un (by omega)]; exact g_us) | (rw [g_un (by omega), g_un (by omega), g_un (by omega)]; assumption) | ((repeat (rw [g_un (by omega)])); first | exact g_us | assumption)) ?_
      refine r_ifnull dJ1_rotateRight_21 ?_
      refine r_aload2 dJ1_rotateRight_24 ?_
      refine f_J1_114_J21 dJ1_rotateRight_25 (by first | assumption | exact g_us | (rw [g_un (by omega)]; assumption) | (rw [g_un (by omega)]; exact g_us) | (rw [g_un (by omega), g_un (by omega)]; assumption) | (rw [g_un (by omega), g_un (by omega)]; exact g_us) | (rw [g_un (by omega), g_un (by omega), g_un (by omega)]; assumption) | ((repeat (rw [g_un (by omega)])); first | exact g_us | assumption)) ?_
      refine r_aload1 dJ1_rotateRight_28 ?_
      refine p_J1_124_J21 dJ1_rotateRight_29 (by omega) (by first | assumption | exact g_us | (rw [g_un (by omega)]; assumption) | (rw [g_un (by omega)]; exact g_us) | (rw [g_un (by omega), g_un (by omega)]; assumption) | (rw [g_un (by omega), g_un (by omega)]; exact g_us) | (rw [g_un (by omega), g_un (by omega), g_un (by omega)]; assumption) | ((repeat (rw [g_un (by omega)])); first | exact g_us | assumption)) ?_
      refine r_aload2 dJ1_rotateRight_32 ?_
      refine r_aload1 dJ1_rotateRight_33 ?_
      refine f_J1_124_J21 dJ1_rotateRight_34 (by first | assumption | exact g_us | (rw [g_un (by omega)]; assumption) | (rw [g_un (by omega)]; exact g_us) | (rw [g_un (by omega), g_un (by omega)]; assumption) | (rw [g_un (by omega), g_un (by omega)]; exact g_us) | (rw [g_un (by omega), g_un (by omega), g_un (by omega)]; assumption) | ((repeat (rw [g_un (by omega)])); first | exact g_us | assumption)) ?_
      refine p_J1_124_J21 dJ1_rotateRight_37 (by omega) (by first | assumption | exact g_us | (rw [g_un (by omega)]; assumption) | (rw [g_un (by omega)]; exact g_us) | (rw [g_un (by omega), g_un (by omega)]; assumption) | (rw [g_un (by omega), g_un (by omega)]; exact g_us) | (rw [g_un (by omega), g_un (by omega), g_un (by omega)]; assumption) | ((repeat (rw [g_un (by omega)])); first | exact g_us | assumption)) ?_
      refine r_aload1 dJ1_rotateRight_40 ?_
      refine f_J1_124_J21 dJ1_rotateRight_41 (by first | assumption | exact g_us | (rw [g_un (by omega)]; assumption) | (rw [g_un (by omega)]; exact g_us) | (rw [g_un (by omega), g_un (by omega)]; assumption) | (rw [g_un (by omega), g_un (by omega)]; exact g_us) | (rw [g_un (by omega), g_un (by omega), g_un (by omega)]; assumption) | ((repeat (rw [g_un (by omega)])); first | exact g_us | assumption)) ?_
      refine r_ifnonnullZ dJ1_rotateRight_44 ?_
      refine r_aload0 dJ1_rotateRight_47 ?_
      refine r_aload2 dJ1_rotateRight_48 ?_
      refine p_J1_101_J1 dJ1_rotateRight_49 (by omega) (by first | assumption | exact g_us | (rw [g_un (by omega)]; assumption) | (rw [g_un (by omega)]; exact g_us) | (rw [g_un (by omega), g_un (by omega)]; assumption) | (rw [g_un (by omega), g_un (by omega)]; exact g_us) | (rw [g_un (by omega), g_un (by omega), g_un (by omega)]; assumption) | ((repeat (rw [g_un (by omega)])); first | exact g_us | assumption)) ?_
      refine r_goto (tgt := 85) dJ1_rotateRight_52 (by decide) ?_
      refine r_aload2 dJ1_rotateRight_85 ?_
      refine r_aload1 dJ1_rotateRight_86 ?_
      refine p_J1_114_J21 dJ1_rotateRight_87 (by omega) (by first | assumption | exact g_us | (rw [g_un (by omega)]; assumption) | (rw [g_un (by omega)]; exact g_us) | (rw [g_un (by omega), g_un (by omega)]; assumption) | (rw [g_un (by omega), g_un (by omega)]; exact g_us) | (rw [g_un (by omega), g_un (by omega), g_un (by omega)]; assumption) | ((repeat (rw [g_un (by omega)])); first | exact g_us | assumption)) ?_
      refine r_aload1 dJ1_rotateRight_90 ?_
      refine r_aload2 dJ1_rotateRight_91 ?_
      refine p_J1_124_J21 dJ1_rotateRight_92 (by omega) (by first | assumption | exact g_us | (rw [g_un (by omega)]; assumption) | (rw [g_un (by omega)]; exact g_us) | (rw [g_un (by omega), g_un (by omega)]; assumption) | (rw [g_un (by omega), g_un (by omega)]; exact g_us) | (rw [g_un (by omega), g_un (by omega), g_un (by omega)]; assumption) | ((repeat (rw [g_un (by omega)])); first | exact g_us | assumption)) ?_
      exact r_return dJ1_rotateRight_95 rfl (⟨rot_of (by (repeat (rw [g_un (by omega)])); exact g_us) (by (repeat (rw [g_un (by omega)])); exact g_us) (Or.inr ⟨b, kb, vb, lb, rb, cb, rfl, hb, by (repeat (rw [g_un (by omega)])); exact g_us⟩) (Or.inl ⟨rfl, by (repeat (rw [g_un (by omega)])); exact g_us⟩) (fun z z1 z2 z3 z4 z5 => by have z6 : z ≠ b := fun e0 => z3 (by rw [e0]); have z7 : z ≠ mp := z5 rfl; repeat (rw [g_un (by omega)])), rfl⟩)
    · have m4 : mp ≠ e := fun e0 => by rw [e0, he] at hm; exact trne hm
      have be : b ≠ e := fun e0 => b4 (by rw [e0])
      cases s
      · have he : h e = some (nC ke ve (.ref a) w qe ce) := he
        rcases e4 with rfl | ⟨z, rfl, z2⟩
        · skip
          skip
          refine r_aload1 dJ1_rotateRight_0 ?_
          refine r_ifnull dJ1_rotateRight_1 ?_
          refine r_aload1 dJ1_rotateRight_4 ?_
          refine f_J1_111_J21 dJ1_rotateRight_5 (by first | assumption | exact g_us | (rw [g_un (by omega)]; assumption) | (rw [g_un (by omega)]; exact g_us) | (rw [g_un (by omega), g_un (by omega)]; assumption) | (rw [g_un (by omega), g_un (by omega)]; exact g_us) | (rw [g_un (by omega), g_un (by omega), g_un (by omega)]; assumption) | ((repeat (rw [g_un (by omega)])); first | exact g_us | assumption)) ?_
          refine r_astore2 dJ1_rotateRight_8 ?_
          refine r_aload1 dJ1_rotateRight_9 ?_
          refine r_aload2 dJ1_rotateRight_10 ?_
          refine f_J1_114_J21 dJ1_rotateRight_11 (by first | assumption | exact g_us | (rw [g_un (by omega)]; assumption) | (rw [g_un (by omega)]; exact g_us) | (rw [g_un (by omega), g_un (by omega)]; assumption) | (rw [g_un (by omega), g_un (by omega)]; exact g_us) | (rw [g_un (by omega), g_un (by omega), g_un (by omega)]; assumption) | ((repeat (rw [g_un (by omega)])); first | exact g_us | assumption)) ?_
          refine p_J1_111_J21 dJ1_rotateRight_14 (by omega) (by first | assumption | exact g_us | (rw [g_un (by omega)]; assumption) | (rw [g_un (by omega)]; exact g_us) | (rw [g_un (by omega), g_un (by omega)]; assumption) | (rw [g_un (by omega), g_un (by omega)]; exact g_us) | (rw [g_un (by omega), g_un (by omega), g_un (by omega)]; assumption) | ((repeat (rw [g_un (by omega)])); first | exact g_us | assumption)) ?_
          refine r_aload2 dJ1_rotateRight_17 ?_
          refine f_J1_114_J21 dJ1_rotateRight_18 (by first | assumption | exact g_us | (rw [g_un (by omega)]; assumption) | (rw [g_un (by omega)]; exact g_us) | (rw [g_un (by omega), g_un (by omega)]; assumption) | (rw [g_un (by omega), g_un (by omega)]; exact g_us) | (rw [g_un (by omega), g_un (by omega), g_un (by omega)]; assumption) | ((repeat (rw [g_un (by omega)])); first | exact g_us | assumption)) ?_
          refine r_ifnull dJ1_rotateRight_21 ?_
          refine r_aload2 dJ1_rotateRight_24 ?_
          refine f_J1_114_J21 dJ1_rotateRight_25 (by first | assumption | exact g_us | (rw [g_un (by omega)]; assumption) | (rw [g_un (by omega)]; exact g_us) | (rw [g_un (by omega), g_un (by omega)]; assumption) | (rw [g_un (by omega), g_un (by omega)]; exact g_us) | (rw [g_un (by omega), g_un (by omega), g_un (by omega)]; assumption) | ((repeat (rw [g_un (by omega)])); first | exact g_us | assumption)) ?_
          refine r_aload1 dJ1_rotateRight_28 ?_
          refine p_J1_124_J21 dJ1_rotateRight_29 (by omega) (by first | assumption | exact g_us | (rw [g_un (by omega)]; assumption) | (rw [g_un (by omega)]; exact g_us) | (rw [g_un (by omega), g_un (by omega)]; assumption) | (rw [g_un (by omega), g_un (by omega)]; exact g_us) | (rw [g_un (by omega), g_un (by omega), g_un (by omega)]; assumption) | ((repeat (rw [g_un (by omega)])); first | exact g_us | assumption)) ?_
          refine r_aload2 dJ1_rotateRight_32 ?_
          refine r_aload1 dJ1_rotateRight_33 ?_
          refine f_J1_124_J21 dJ1_rotateRight_34 (by first | assumption | exact g_us | (rw [g_un (by omega)]; assumption) | (rw [g_un (by omega)]; exact g_us) | (rw [g_un (by omega), g_un (by omega)]; assumption) | (rw [g_un (by omega), g_un (by omega)]; exact g_us) | (rw [g_un (by omega), g_un (by omega), g_un (by omega)]; assumption) | ((repeat (rw [g_un (by omega)])); first | exact g_us | assumption)) ?_
          refine p_J1_124_J21 dJ1_rotateRight_37 (by omega) (by first | assumption | exact g_us | (rw [g_un (by omega)]; assumption) | (rw [g_un (by omega)]; exact g_us) | (rw [g_un (by omega), g_un (by omega)]; assumption) | (rw [g_un (by omega), g_un (by omega)]; exact g_us) | (rw [g_un (by omega), g_un (by omega), g_un (by omega)]; assumption) | ((repeat (rw [g_un (by omega)])); first | exact g_us | assumption)) ?_
          refine r_aload1 dJ1_rotateRight_40 ?_
          refine f_J1_124_J21 dJ1_rotateRight_41 (by first | assumption | exact g_us | (rw [g_un (by omega)]; assumption) | (rw [g_un (by omega)]; exact g_us) | (rw [g_un (by omega), g_un (by omega)]; assumption) | (rw [g_un (by omega), g_un (by omega)]; exact g_us) | (rw [g_un (by omega), g_un (by omega), g_un (by omega)]; assumption) | ((repeat (rw [g_un (by omega)])); first | exact g_us | assumption)) ?_
          refine r_ifnonnull (tgt := 55) dJ1_rotateRight_44 (by decide) ?_
          refine r_aload1 dJ1_rotateRight_55 ?_
          refine f_J1_124_J21 dJ1_rotateRight_56 (by first | assumption | exact g_us | (rw [g_un (by omega)]; assumption) | (rw [g_un (by omega)]; exact g_us) | (rw [g_un (by omega), g_un (by omega)]; assumption) | (rw [g_un (by omega), g_un (by omega)]; exact g_us) | (rw [g_un (by omega), g_un (by omega), g_un (by omega)]; assumption) | ((repeat (rw [g_un (by omega)])); first | exact g_us | assumption)) ?_
          refine f_J1_114_J21 dJ1_rotateRight_59 (by first | assumption | exact g_us | (rw [g_un (by omega)]; assumption) | (rw [g_un (by omega)]; exact g_us) | (rw [g_un (by omega), g_un (by omega)]; assumption) | (rw [g_un (by omega), g_un (by omega)]; exact g_us) | (rw [g_un (by omega), g_un (by omega), g_un (by omega)]; assumption) | ((repeat (rw [g_un (by omega)])); first | exact g_us | assumption)) ?_
          refine r_aload1 dJ1_rotateRight_62 ?_
          refine r_acmp_neZR (tgt := 77) dJ1_rotateRight_63 (by decide) ?_
          refine r_aload1 dJ1_rotateRight_77 ?_
          refine f_J1_124_J21 dJ1_rotateRight_78 (by first | assumption | exact g_us | (rw [g_un (by omega)]; assumption) | (rw [g_un (by omega)]; exact g_us) | (rw [g_un (by omega), g_un (by omega)]; assumption) | (rw [g_un (by omega), g_un (by omega)]; exact g_us) | (rw [g_un (by omega), g_un (by omega), g_un (by omega)]; assumption) | ((repeat (rw [g_un (by omega)])); first | exact g_us | assumption)) ?_
          refine r_aload2 dJ1_rotateRight_81 ?_
          refine p_J1_111_J21 dJ1_rotateRight_82 (by omega) (by first | assumption | exact g_us | (rw [g_un (by omega)]; assumption) | (rw [g_un (by omega)]; exact g_us) | (rw [g_un (by omega), g_un (by omega)]; assumption) | (rw [g_un (by omega), g_un (by omega)]; exact g_us) | (rw [g_un (by omega), g_un (by omega), g_un (by omega)]; assumption) | ((repeat (rw [g_un (by omega)])); first | exact g_us | assumption)) ?_
          refine r_aload2 dJ1_rotateRight_85 ?_
          refine r_aload1 dJ1_rotateRight_86 ?_
          refine p_J1_114_J21 dJ1_rotateRight_87 (by omega) (by first | assumption | exact g_us | (rw [g_un (by omega)]; assumption) | (rw [g_un (by omega)]; exact g_us) | (rw [g_un (by omega), g_un (by omega)]; assumption) | (rw [g_un (by omega), g_un (by omega)]; exact g_us) | (rw [g_un (by omega), g_un (by omega), g_un (by omega)]; assumption) | ((repeat (rw [g_un (by omega)])); first | exact g_us | assumption)) ?_
          refine r_aload1 dJ1_rotateRight_90 ?_
          refine r_aload2 dJ1_rotateRight_91 ?_
          refine p_J1_124_J21 dJ1_rotateRight_92 (by omega) (by first | assumption | exact g_us | (rw [g_un (by omega)]; assumption) | (rw [g_un (by omega)]; exact g_us) | (rw [g_un (by omega), g_un (by omega)]; assumption) | (rw [g_un (by omega), g_un (by omega)]; exact g_us) | (rw [g_un (by omega), g_un (by omega), g_un (by omega)]; assumption) | ((repeat (rw [g_un (by omega)])); first | exact g_us | assumption)) ?_
          exact r_return dJ1_rotateRight_95 rfl (⟨rot_of (by (repeat (rw [g_un (by omega)])); exact g_us) (by (repeat (rw [g_un (by omega)])); exact g_us) (Or.inr ⟨b, kb, vb, lb, rb, cb, rfl, hb, by (repeat (rw [g_un (by omega)])); exact g_us⟩) (Or.inr ⟨e, false, ke, ve, _, qe, ce, rfl, (fun e0 => by cases e0), he, by (repeat (rw [g_un (by omega)])); exact g_us⟩) (fun z z1 z2 z3 z4 z5 => by have z6 : z ≠ b := fun e0 => z3 (by rw [e0]); have z7 : z ≠ e := fun e0 => z4 (by rw [e0]); repeat (rw [g_un (by omega)])), rfl⟩)
        · skip
          skip
          refine r_aload1 dJ1_rotateRight_0 ?_
          refine r_ifnull dJ1_rotateRight_1 ?_
          refine r_aload1 dJ1_rotateRight_4 ?_
          refine f_J1_111_J21 dJ1_rotateRight_5 (by first | assumption | exact g_us | (rw [g_un (by omega)]; assumption) | (rw [g_un (by omega)]; exact g_us) | (rw [g_un (by omega), g_un (by omega)]; assumption) | (rw [g_un (by omega), g_un (by omega)]; exact g_us) | (rw [g_un (by omega), g_un (by omega), g_un (by omega)]; assumption) | ((repeat (rw [g_un (by omega)])); first | exact g_us | assumption)) ?_
          refine r_astore2 dJ1_rotateRight_8 ?_
          refine r_aload1 dJ1_rotateRight_9 ?_
          refine r_aload2 dJ1_rotateRight_10 ?_
          refine f_J1_114_J21 dJ1_rotateRight_11 (by first | assumption | exact g_us | (rw [g_un (by omega)]; assumption) | (rw [g_un (by omega)]; exact g_us) | (rw [g_un (by omega), g_un (by omega)]; assumption) | (rw [g_un (by omega), g_un (by omega)]; exact g_us) | (rw [g_un (by omega), g_un (by omega), g_un (by omega)]; assumption) | ((repeat (rw [g_un (by omega)])); first | exact g_us | assumption)) ?_
          refine p_J1_111_J21 dJ1_rotateRight_14 (by omega) (by first | assumption | exact g_us | (rw [g_un (by omega)]; assumption) | (rw [g_un (by omega)]; exact g_us) | (rw [g_un (by omega), g_un (by omega)]; assumption) | (rw [g_un (by omega), g_un (by omega)]; exact g_us) | (rw [g_un (by omega), g_un (by omega), g_un (by omega)]; assumption) | ((repeat (rw [g_un (by omega)])); first | exact g_us | assumption)) ?_
          refine r_aload2 dJ1_rotateRight_17 ?_
          refine f_J1_114_J21 dJ1_rotateRight_18 (by first | assumption | exact g_us | (rw [g_un (by omega)]; assumption) | (rw [g_un (by omega)]; exact g_us) | (rw [g_un (by omega), g_un (by omega)]; assumption) | (rw [g_un (by omega), g_un (by omega)]; exact g_us) | (rw [g_un (by omega), g_un (by omega), g_un (by omega)]; assumption) | ((repeat (rw [g_un (by omega)])); first | exact g_us | assumption)) ?_
          refine r_ifnull dJ1_rotateRight_21 ?_
          refine r_aload2 dJ1_rotateRight_24 ?_
          refine f_J1_114_J21 dJ1_rotateRight_25 (by first | assumption | exact g_us | (rw [g_un (by omega)]; assumption) | (rw [g_un (by omega)]; exact g_us) | (rw [g_un (by omega), g_un (by omega)]; assumption) | (rw [g_un (by omega), g_un (by omega)]; exact g_us) | (rw [g_un (by omega), g_un (by omega), g_un (by omega)]; assumption) | ((repeat (rw [g_un (by omega)])); first | exact g_us | assumption)) ?_
          refine r_aload1 dJ1_rotateRight_28 ?_
          refine p_J1_124_J21 dJ1_rotateRight_29 (by omega) (by first | assumption | exact g_us | (rw [g_un (by omega)]; assumption) | (rw [g_un (by omega)]; exact g_us) | (rw [g_un (by omega), g_un (by omega)]; assumption) | (rw [g_un (by omega), g_un (by omega)]; exact g_us) | (rw [g_un (by omega), g_un (by omega), g_un (by omega)]; assumption) | ((repeat (rw [g_un (by omega)])); first | exact g_us | assumption)) ?_
          refine r_aload2 dJ1_rotateRight_32 ?_
          refine r_aload1 dJ1_rotateRight_33 ?_
          refine f_J1_124_J21 dJ1_rotateRight_34 (by first | assumption | exact g_us | (rw [g_un (by omega)]; assumption) | (rw [g_un (by omega)]; exact g_us) | (rw [g_un (by omega), g_un (by omega)]; assumption) | (rw [g_un (by omega), g_un (by omega)]; exact g_us) | (rw [g_un (by omega), g_un (by omega), g_un (by omega)]; assumption) | ((repeat (rw [g_un (by omega)])); first | exact g_us | assumption)) ?_
          refine p_J1_124_J21 dJ1_rotateRight_37 (by omega) (by first | assumption | exact g_us | (rw [g_un (by omega)]; assumption) | (rw [g_un (by omega)]; exact g_us) | (rw [g_un (by omega), g_un (by omega)]; assumption) | (rw [g_un (by omega), g_un (by omega)]; exact g_us) | (rw [g_un (by omega), g_un (by omega), g_un (by omega)]; assumption) | ((repeat (rw [g_un (by omega)])); first | exact g_us | assumption)) ?_
          refine r_aload1 dJ1_rotateRight_40 ?_
          refine f_J1_124_J21 dJ1_rotateRight_41 (by first | assumption | exact g_us | (rw [g_un (by omega)]; assumption) | (rw [g_un (by omega)]; exact g_us) | (rw [g_un (by omega), g_un (by omega)]; assumption) | (rw [g_un (by omega), g_un (by omega)]; exact g_us) | (rw [g_un (by omega), g_un (by omega), g_un (by omega)]; assumption) | ((repeat (rw [g_un (by omega)])); first | exact g_us | assumption)) ?_
          refine r_ifnonnull (tgt := 55) dJ1_rotateRight_44 (by decide) ?_
          refine r_aload1 dJ1_rotateRight_55 ?_
          refine f_J1_124_J21 dJ1_rotateRight_56 (by first | assumption | exact g_us | (rw [g_un (by omega)]; assumption) | (rw [g_un (by omega)]; exact g_us) | (rw [g_un (by omega), g_un (by omega)]; assumption) | (rw [g_un (by omega), g_un (by omega)]; exact g_us) | (rw [g_un (by omega), g_un (by omega), g_un (by omega)]; assumption) | ((repeat (rw [g_un (by omega)])); first | exact g_us | assumption)) ?_
          refine f_J1_114_J21 dJ1_rotateRight_59 (by first | assumption | exact g_us | (rw [g_un (by omega)]; assumption) | (rw [g_un (by omega)]; exact g_us) | (rw [g_un (by omega), g_un (by omega)]; assumption) | (rw [g_un (by omega), g_un (by omega)]; exact g_us) | (rw [g_un (by omega), g_un (by omega), g_un (by omega)]; assumption) | ((repeat (rw [g_un (by omega)])); first | exact g_us | assumption)) ?_
          refine r_aload1 dJ1_rotateRight_62 ?_
          refine r_acmp_ne (tgt := 77) dJ1_rotateRight_63 (by decide) (fun c63 => ?_) (fun c63 => absurd c63 z2)
          refine r_aload1 dJ1_rotateRight_77 ?_
          refine f_J1_124_J21 dJ1_rotateRight_78 (by first | assumption | exact g_us | (rw [g_un (by omega)]; assumption) | (rw [g_un (by omega)]; exact g_us) | (rw [g_un (by omega), g_un (by omega)]; assumption) | (rw [g_un (by omega), g_un (by omega)]; exact g_us) | (rw [g_un (by omega), g_un (by omega), g_un (by omega)]; assumption) | ((repeat (rw [g_un (by omega)])); first | exact g_us | assumption)) ?_
          refine r_aload2 dJ1_rotateRight_81 ?_
          refine p_J1_111_J21 dJ1_rotateRight_82 (by omega) (by first | assumption | exact g_us | (rw [g_un (by omega)]; assumption) | (rw [g_un (by omega)]; exact g_us) | (rw [g_un (by omega), g_un (by omega)]; assumption) | (rw [g_un (by omega), g_un (by omega)]; exact g_us) | (rw [g_un (by omega), g_un (by omega), g_un (by omega)]; assumption) | ((repeat (rw [g_un (by omega)])); first | exact g_us | assumption)) ?_
          refine r_aload2 dJ1_rotateRight_85 ?_
          refine r_aload1 dJ1_rotateRight_86 ?_
          refine p_J1_114_J21 dJ1_rotateRight_87 (by omega) (by first | assumption | exact g_us | (rw [g_un (by omega)]; assumption) | (rw [g_un (by omega)]; exact g_us) | (rw [g_un (by omega), g_un (by omega)]; assumption) | (rw [g_un (by omega), g_un (by omega)]; exact g_us) | (rw [g_un (by omega), g_un (by omega), g_un (by omega)]; assumption) | ((repeat (rw [g_un (by omega)])); first | exact g_us | assumption)) ?_
          refine r_aload1 dJ1_rotateRight_90 ?_
          refine r_aload2 dJ1_rotateRight_91 ?_
          refine p_J1_124_J21 dJ1_rotateRight_92 (by omega) (by first | assumption | exact g_us | (rw [g_un (by omega)]; assumption) | (rw [g_un (by omega)]; exact g_us) | (rw [g_un (by omega), g_un (by omega)]; assumption) | (rw [g_un (by omega), g_un (by omega)]; exact g_us) | (rw [g_un (by omega), g_un (by omega), g_un (by omega)]; assumption) | ((repeat (rw [g_un (by omega)])); first | exact g_us | assumption)) ?_
          exact r_return dJ1_rotateRight_95 rfl (⟨rot_of (by (repeat (rw [g_un (by omega)])); exact g_us) (by (repeat (rw [g_un (by omega)])); exact g_us) (Or.inr ⟨b, kb, vb, lb, rb, cb, rfl, hb, by (repeat (rw [g_un (by omega)])); exact g_us⟩) (Or.inr ⟨e, false, ke, ve, _, qe, ce, rfl, (fun e0 => by cases e0; exact z2 rfl), he, by (repeat (rw [g_un (by omega)])); exact g_us⟩) (fun z z1 z2 z3 z4 z5 => by have z6 : z ≠ b := fun e0 => z3 (by rw [e0]); have z7 : z ≠ e := fun e0 => z4 (by rw [e0]); repeat (rw [g_un (by omega)])), rfl⟩)
      · have he : h e = some (nC ke ve w (.ref a) qe ce) := he
        have ho9 : w ≠ .ref a := by rcases e4 with rfl | ⟨z, rfl, z2⟩
                                    · intro e0; cases e0
                                    · intro e0; cases e0; exact z2 rfl
        skip
        refine r_aload1 dJ1_rotateRight_0 ?_
        refine r_ifnull dJ1_rotateRight_1 ?_
        refine r_aload1 dJ1_rotateRight_4 ?_
        refine f_J1_111_J21 dJ1_rotateRight_5 (by first | assumption | exact g_us | (rw [g_un (by omega)]; assumption) | (rw [g_un (by omega)]; exact g_us) | (rw [g_un (by omega), g_un (by omega)]; assumption) | (rw [g_un (by omega), g_un (by omega)]; exact g_us) | (rw [g_un (by omega), g_un (by omega), g_un (by omega)]; assumption) | ((repeat (rw [g_un (by omega)])); first | exact g_us | assumption)) ?_
        refine r_astore2 dJ1_rotateRight_8 ?_
        refine r_aload1 dJ1_rotateRight_9 ?_
        refine r_aload2 dJ1_rotateRight_10 ?_
        refine f_J1_114_J21 dJ1_rotateRight_11 (by first | assumption | exact g_us | (rw [g_un (by omega)]; assumption) | (rw [g_un (by omega)]; exact g_us) | (rw [g_un (by omega), g_un (by omega)]; assumption) | (rw [g_un (by omega), g_un (by omega)]; exact g_us) | (rw [g_un (by omega), g_un (by omega), g_un (by omega)]; assumption) | ((repeat (rw [g_un (by omega)])); first | exact g_us | assumption)) ?_
        refine p_J1_111_J21 dJ1_rotateRight_14 (by omega) (by first | assumption | exact g_us | (rw [g_un (by omega)]; assumption) | (rw [g_un (by omega)]; exact g_us) | (rw [g_un (by omega), g_un (by omega)]; assumption) | (rw [g_un (by omega), g_un (by omega)]; exact g_us) | (rw [g_un (by omega), g_un (by omega), g_un (by omega)]; assumption) | ((repeat (rw [g_un (by omega)])); first | exact g_us | assumption)) ?_
        refine r_aload2 dJ1_rotateRight_17 ?_
        refine f_J1_114_J21 dJ1_rotateRight_18 (by first | assumption | exact g_us | (rw [g_un (by omega)]; assumption) | (rw [g_un (by omega)]; exact g_us) | (rw [g_un (by omega), g_un (by omega)]; assumption) | (rw [g_un (by omega), g_un (by omega)]; exact g_us) | (rw [g_un (by omega), g_un (by omega), g_un (by omega)]; assumption) | ((repeat (rw [g_un (by omega)])); first | exact g_us | assumption)) ?_
        refine r_ifnull dJ1_rotateRight_21 ?_
        refine r_aload2 dJ1_rotateRight_24 ?_
        refine f_J1_114_J21 dJ1_rotateRight_25 (by first | assumption | exact g_us | (rw [g_un (by omega)]; assumption) | (rw [g_un (by omega)]; exact g_us) | (rw [g_un (by omega), g_un (by omega)]; assumption) | (rw [g_un (by omega), g_un (by omega)]; exact g_us) | (rw [g_un (by omega), g_un (by omega), g_un (by omega)]; assumption) | ((repeat (rw [g_un (by omega)])); first | exact g_us | assumption)) ?_
        refine r_aload1 dJ1_rotateRight_28 ?_
        refine p_J1_124_J21 dJ1_rotateRight_29 (by omega) (by first | assumption | exact g_us | (rw [g_un (by omega)]; assumption) | (rw [g_un (by omega)]; exact g_us) | (rw [g_un (by omega), g_un (by omega)]; assumption) | (rw [g_un (by omega), g_un (by omega)]; exact g_us) | (rw [g_un (by omega), g_un (by omega), g_un (by omega)]; assumption) | ((repeat (rw [g_un (by omega)])); first | exact g_us | assumption)) ?_
        refine r_aload2 dJ1_rotateRight_32 ?_
        refine r_aload1 dJ1_rotateRight_33 ?_
        refine f_J1_124_J21 dJ1_rotateRight_34 (by first | assumption | exact g_us | (rw [g_un (by omega)]; assumption) | (rw [g_un (by omega)]; exact g_us) | (rw [g_un (by omega), g_un (by omega)]; assumption) | (rw [g_un (by omega), g_un (by omega)]; exact g_us) | (rw [g_un (by omega), g_un (by omega), g_un (by omega)]; assumption) | ((repeat (rw [g_un (by omega)])); first | exact g_us | assumption)) ?_
        refine p_J1_124_J21 dJ1_rotateRight_37 (by omega) (by first | assumption | exact g_us | (rw [g_un (by omega)]; assumption) | (rw [g_un (by omega)]; exact g_us) | (rw [g_un (by omega), g_un (by omega)]; assumption) | (rw [g_un (by omega), g_un (by omega)]; exact g_us) | (rw [g_un (by omega), g_un (by omega), g_un (by omega)]; assumption) | ((repeat (rw [g_un (by omega)])); first | exact g_us | assumption)) ?_
        refine r_aload1 dJ1_rotateRight_40 ?_
        refine f_J1_124_J21 dJ1_rotateRight_41 (by first | assumption | exact g_us | (rw [g_un (by omega)]; assumption) | (rw [g_un (by omega)]; exact g_us) | (rw [g_un (by omega), g_un (by omega)]; assumption) | (rw [g_un (by omega), g_un (by omega)]; exact g_us) | (rw [g_un (by omega), g_un (by omega), g_un (by omega)]; assumption) | ((repeat (rw [g_un (by omega)])); first | exact g_us | assumption)) ?_
        refine r_ifnonnull (tgt := 55) dJ1_rotateRight_44 (by decide) ?_
        refine r_aload1 dJ1_rotateRight_55 ?_
        refine f_J1_124_J21 dJ1_rotateRight_56 (by first | assumption | exact g_us | (rw [g_un (by omega)]; assumption) | (rw [g_un (by omega)]; exact g_us) | (rw [g_un (by omega), g_un (by omega)]; assumption) | (rw [g_un (by omega), g_un (by omega)]; exact g_us) | (rw [g_un (by omega), g_un (by omega), g_un (by omega)]; assumption) | ((repeat (rw [g_un (by omega)])); first | exact g_us | assumption)) ?_
        refine f_J1_114_J21 dJ1_rotateRight_59 (by first | assumption | exact g_us | (rw [g_un (by omega)]; assumption) | (rw [g_un (by omega)]; exact g_us) | (rw [g_un (by omega), g_un (by omega)]; assumption) | (rw [g_un (by omega), g_un (by omega)]; exact g_us) | (rw [g_un (by omega), g_un (by omega), g_un (by omega)]; assumption) | ((repeat (rw [g_un (by omega)])); first | exact g_us | assumption)) ?_
        refine r_aload1 dJ1_rotateRight_62 ?_
        refine r_acmp_ne (tgt := 77) dJ1_rotateRight_63 (by decide) (fun c63 => absurd c63 ((fun z => z rfl))) (fun c63 => ?_)
        refine r_aload1 dJ1_rotateRight_66 ?_
        refine f_J1_124_J21 dJ1_rotateRight_67 (by first | assumption | exact g_us | (rw [g_un (by omega)]; assumption) | (rw [g_un (by omega)]; exact g_us) | (rw [g_un (by omega), g_un (by omega)]; assumption) | (rw [g_un (by omega), g_un (by omega)]; exact g_us) | (rw [g_un (by omega), g_un (by omega), g_un (by omega)]; assumption) | ((repeat (rw [g_un (by omega)])); first | exact g_us | assumption)) ?_
        refine r_aload2 dJ1_rotateRight_70 ?_
        refine p_J1_114_J21 dJ1_rotateRight_71 (by omega) (by first | assumption | exact g_us | (rw [g_un (by omega)]; assumption) | (rw [g_un (by omega)]; exact g_us) | (rw [g_un (by omega), g_un (by omega)]; assumption) | (rw [g_un (by omega), g_un (by omega)]; exact g_us) | (rw [g_un (by omega), g_un (by omega), g_un (by omega)]; assumption) | ((repeat (rw [g_un (by omega)])); first | exact g_us | assumption)) ?_
        refine r_goto (tgt := 85) dJ1_rotateRight_74 (by decide) ?_
        refine r_aload2 dJ1_rotateRight_85 ?_
        refine r_aload1 dJ1_rotateRight_86 ?_
        refine p_J1_114_J21 dJ1_rotateRight_87 (by omega) (by first | assumption | exact g_us | (rw [g_un (by omega)]; assumption) | (rw [g_un (by omega)]; exact g_us) | (rw [g_un (by omega), g_un (by omega)]; assumption) | (rw [g_un (by omega), g_un (by omega)]; exact g_us) | (rw [g_un (by omega), g_un (by omega), g_un (by omega)]; assumption) | ((repeat (rw [g_un (by omega)])); first | exact g_us | assumption)) ?_
        refine r_aload1 dJ1_rotateRight_90 ?_
        refine r_aload2 dJ1_rotateRight_91 ?_
        refine p_J1_124_J21 dJ1_rotateRight_92 (by omega) (by first | assumption | exact g_us | (rw [g_un (by omega)]; assumption) | (rw [g_un (by omega)]; exact g_us) | (rw [g_un (by omega), g_un (by omega)]; assumption) | (rw [g_un (by omega), g_un (by omega)]; exact g_us) | (rw [g_un (by omega), g_un (by omega), g_un (by omega)]; assumption) | ((repeat (rw [g_un (by omega)])); first | exact g_us | assumption)) ?_
        exact r_return dJ1_rotateRight_95 rfl (⟨rot_of (by (repeat (rw [g_un (by omega)])); exact g_us) (by (repeat (rw [g_un (by omega)])); exact g_us) (Or.inr ⟨b, kb, vb, lb, rb, cb, rfl, hb, by (repeat (rw [g_un (by omega)])); exact g_us⟩) (Or.inr ⟨e, true, ke, ve, _, qe, ce, rfl, ho9, he, by (repeat (rw [g_un (by omega)])); exact g_us⟩) (fun z z1 z2 z3 z4 z5 => by have z6 : z ≠ b := fun e0 => z3 (by rw [e0]); have z7 : z ≠ e := fun e0 => z4 (by rw [e0]); repeat (rw [g_un (by omega)])), rfl⟩)
end
