/-! TreeMap: put over a key that is there; its key set; TreeSet -/
set_option maxRecDepth 100000
section
variable {K : g_K} {W : c_W} {a n : Nat} {h : g_P}
theorem k_putOld2 {b : Bool} {mp x vx : Nat} {L1 L2 : List c_N} {mc : Int32} {nk kk v : Value} {ky : Value → Int} (bm : k_b K ≤ mp) (T : tm K mp (L1 ++ (a, kk, v) :: L2) mc nk h) (hk : ∀ z ∈ L1 ++ (a, kk, v) :: L2, kyc b h z.2.1 (ky z.2.1)) (s1 : ∀ z ∈ L1, ky z.2.1 < ky kk) (s2 : ∀ z ∈ L2, ky kk < ky z.2.1) (kx : kyc b h (.ref x) (ky kk)) (hv : v = .null ∨ ∃ z, v = .ref z) : g_Met K mJ1_put_2 4 0 0 [.ref mp, .ref x, .ref vx, .int (nI 1)] h n (gA fun r h' n' => r = v ∧ tm K mp (L1 ++ (a, kk, .ref vx) :: L2) mc nk h' ∧ (∀ z : Nat, z ≠ a → h' z = h z) ∧ n' = n) gN := by
  have T0 := T
  obtain ⟨⟨t, hm, sN0, rb⟩, nd, nmp, bN⟩ := T
  have sN1 := sN0
  obtain ⟨f0, sN⟩ := sN0
  have ba : k_b K ≤ a := bN (a, kk, v) (by simp)
  have am : a ≠ mp := nmp (a, kk, v) (by simp)
  have fin : ∀ (l r q : Value) (c : Bool), h a = some (nC kk v l r q c) → tm K mp (L1 ++ (a, kk, .ref vx) :: L2) mc nk (g_up h a (nC kk (.ref vx) l r q c)) := fun l r q c e => by
    refine ⟨⟨t, by rw [g_un (Ne.symm am), hm]; simp, sN1.val nd e, rb.val e⟩, by simpa using nd, fun z hz => ?_, fun z hz => ?_⟩
    · rcases List.mem_append.mp hz with q | q
      · exact nmp z (by simp [q])
      · rcases List.mem_cons.mp q with rfl | q
        · exact am
        · exact nmp z (by simp [q])
    · rcases List.mem_append.mp hz with q | q
      · exact bN z (by simp [q])
      · rcases List.mem_cons.mp q with rfl | q
        · exact ba
        · exact bN z (by simp [q])
  have loop : ∀ (f : Nat) (M1 M2 : List c_N) (y : Nat) (q : Value) (o5 o6 o9 : Option Value), seg h f (M1 ++ (a, kk, v) :: M2) (.ref y) q → (∀ z ∈ M1, z ∈ L1) → (∀ z ∈ M2, z ∈ L2) → g_c1 o5 → g_c1 o6 → g_G K mJ1_put_2 4 0 0 (gA fun r h' n' => r = v ∧ tm K mp (L1 ++ (a, kk, .ref vx) :: L2) mc nk h' ∧ (∀ z : Nat, z ≠ a → h' z = h z) ∧ n' = n) gN 123 [some (.ref mp), some (.ref x), some (.ref vx), some (.int (nI 1)), some (.ref y), o5, o6, some .null, some (.ref x), o9] [] h n := by
    intro f
    induction f with
    | zero => intro M1 M2 y q o5 o6 o9 s; obtain ⟨e, -⟩ := s; simp at e
    | succ f ih =>
      intro M1 M2 y q o5 o6 o9 s i1 i2 g5 g6
      rcases s with ⟨e, -⟩ | ⟨U, V, c, kb, vb, l, r, cc, eL, ey, ec, sl, sr⟩
      · simp at e
      · cases ey
        have hcm : (y, kb, vb) ∈ M1 ++ (a, kk, v) :: M2 := by rw [eL]; simp
        have hcN : (y, kb, vb) ∈ L1 ++ (a, kk, v) :: L2 := by
          rcases List.mem_append.mp hcm with z | z
          · simp [i1 _ z]
          · rcases List.mem_cons.mp z with z | z
            · simp [z]
            · simp [i2 _ z]
        have kb9 := hk _ hcN
        have cont : ∀ (rr : Int32), cmpS rr (ky kk) (ky kb) → g_G K mJ1_put_2 4 0 0 (gA fun r h' n' => r = v ∧ tm K mp (L1 ++ (a, kk, .ref vx) :: L2) mc nk h' ∧ (∀ z : Nat, z ≠ a → h' z = h z) ∧ n' = n) gN 139 [some (.ref mp), some (.ref x), some (.ref vx), some (.int (nI 1)), some (.ref y), o5, some (.ref y), some .null, some (.ref x), o9] [.int rr] h n := by
          intro rr hr
          have here : y = a ∧ kb = kk ∧ vb = v → rr = nI 0 → g_G K mJ1_put_2 4 0 0 (gA fun r h' n' => r = v ∧ tm K mp (L1 ++ (a, kk, .ref vx) :: L2) mc nk h' ∧ (∀ z : Nat, z ≠ a → h' z = h z) ∧ n' = n) gN 139 [some (.ref mp), some (.ref x), some (.ref vx), some (.int (nI 1)), some (.ref y), o5, some (.ref y), some .null, some (.ref x), o9] [.int rr] h n := by
            rintro ⟨rfl, rfl, rfl⟩ rfl
            rcases hv with rfl | ⟨vv, rfl⟩
            · skip
              refine r_istore5 dJ1_put_2_139 ?_
              refine r_iload5 dJ1_put_2_141 ?_
              refine r_if_geN (tgt := 156) dJ1_put_2_143 (by decide) (by omega) (fun c143 => ?_) (fun c143 => absurd c143 (by omega))
              refine r_iload5 dJ1_put_2_156 ?_
              refine r_if_leN (tgt := 171) dJ1_put_2_158 (by decide) (by omega) (fun c158 => ?_) (fun c158 => absurd c158 (by omega))
              refine r_aload4 dJ1_put_2_171 ?_
              refine f_J1_58_J21 dJ1_put_2_173 (by first | assumption | exact g_us | (rw [g_un (by omega)]; assumption) | (rw [g_un (by omega)]; exact g_us) | (rw [g_un (by omega), g_un (by omega)]; assumption) | (rw [g_un (by omega), g_un (by omega)]; exact g_us) | (rw [g_un (by omega), g_un (by omega), g_un (by omega)]; assumption) | ((repeat (rw [g_un (by omega)])); first | exact g_us | assumption)) ?_
              refine r_astoreZ9 dJ1_put_2_176 ?_
              refine r_iload3 dJ1_put_2_178 ?_
              refine r_if_neN (tgt := 187) dJ1_put_2_179 (by decide) (by omega) (fun c179 => ?_) (fun c179 => absurd c179 (by omega))
              refine r_aload4 dJ1_put_2_187 ?_
              refine r_aload2 dJ1_put_2_189 ?_
              refine p_J1_58_J21 dJ1_put_2_190 (by omega) (by first | assumption | exact g_us | (rw [g_un (by omega)]; assumption) | (rw [g_un (by omega)]; exact g_us) | (rw [g_un (by omega), g_un (by omega)]; assumption) | (rw [g_un (by omega), g_un (by omega)]; exact g_us) | (rw [g_un (by omega), g_un (by omega), g_un (by omega)]; assumption) | ((repeat (rw [g_un (by omega)])); first | exact g_us | assumption)) ?_
              refine r_aloadZ9 dJ1_put_2_193 ?_
              exact r_areturn dJ1_put_2_195 rfl (Or.inl ⟨_, rfl⟩) (Or.inl rfl) (⟨rfl, fin _ _ _ _ ec, fun z hz => g_un hz, rfl⟩)
            · skip
              refine r_istore5 dJ1_put_2_139 ?_
              refine r_iload5 dJ1_put_2_141 ?_
              refine r_if_geN (tgt := 156) dJ1_put_2_143 (by decide) (by omega) (fun c143 => ?_) (fun c143 => absurd c143 (by omega))
              refine r_iload5 dJ1_put_2_156 ?_
              refine r_if_leN (tgt := 171) dJ1_put_2_158 (by decide) (by omega) (fun c158 => ?_) (fun c158 => absurd c158 (by omega))
              refine r_aload4 dJ1_put_2_171 ?_
              refine f_J1_58_J21 dJ1_put_2_173 (by first | assumption | exact g_us | (rw [g_un (by omega)]; assumption) | (rw [g_un (by omega)]; exact g_us) | (rw [g_un (by omega), g_un (by omega)]; assumption) | (rw [g_un (by omega), g_un (by omega)]; exact g_us) | (rw [g_un (by omega), g_un (by omega), g_un (by omega)]; assumption) | ((repeat (rw [g_un (by omega)])); first | exact g_us | assumption)) ?_
              refine r_astore9 dJ1_put_2_176 ?_
              refine r_iload3 dJ1_put_2_178 ?_
              refine r_if_neN (tgt := 187) dJ1_put_2_179 (by decide) (by omega) (fun c179 => ?_) (fun c179 => absurd c179 (by omega))
              refine r_aload4 dJ1_put_2_187 ?_
              refine r_aload2 dJ1_put_2_189 ?_
              refine p_J1_58_J21 dJ1_put_2_190 (by omega) (by first | assumption | exact g_us | (rw [g_un (by omega)]; assumption) | (rw [g_un (by omega)]; exact g_us) | (rw [g_un (by omega), g_un (by omega)]; assumption) | (rw [g_un (by omega), g_un (by omega)]; exact g_us) | (rw [g_un (by omega), g_un (by omega), g_un (by omega)]; assumption) | ((repeat (rw [g_un (by omega)])); first | exact g_us | assumption)) ?_
              refine r_aload9 dJ1_put_2_193 ?_
              exact r_areturn dJ1_put_2_195 rfl (Or.inl ⟨_, rfl⟩) (Or.inr ⟨_, rfl⟩) (⟨rfl, fin _ _ _ _ ec, fun z hz => g_un hz, rfl⟩)
          rcases List.append_eq_append_iff.mp eL with ⟨Y, rfl, e2⟩ | ⟨Y, rfl, e2⟩
          · cases Y with
            | nil =>
              simp only [List.nil_append, List.cons.injEq, Prod.mk.injEq] at e2
              obtain ⟨⟨rfl, rfl, rfl⟩, rfl⟩ := e2
              rcases hr with ⟨-, hr⟩ | ⟨e9, -⟩ | ⟨-, hr⟩
              · omega
              · exact here ⟨rfl, rfl, rfl⟩ e9
              · omega
            | cons w Y =>
              simp only [List.cons_append, List.cons.injEq] at e2
              obtain ⟨rfl, rfl⟩ := e2
              have h9 := s2 _ (i2 (y, kb, vb) (by simp))
              rcases hr with ⟨rfl, -⟩ | ⟨-, hr⟩ | ⟨-, hr⟩
              · rcases sg.vr ⟨f, sl⟩ with rfl | ⟨z, rfl⟩
                · exact absurd (sg.null ⟨f, sl⟩) (by simp)
                · skip
                  refine r_istore5 dJ1_put_2_139 ?_
                  refine r_iload5 dJ1_put_2_141 ?_
                  refine r_if_ge (tgt := 156) dJ1_put_2_143 (by decide) (fun c143 => absurd c143 ((by decide))) (fun c143 => ?_)
                  refine r_aload4 dJ1_put_2_146 ?_
                  refine f_J1_111_J21 dJ1_put_2_148 (by first | assumption | exact g_us | (rw [g_un (by omega)]; assumption) | (rw [g_un (by omega)]; exact g_us) | (rw [g_un (by omega), g_un (by omega)]; assumption) | (rw [g_un (by omega), g_un (by omega)]; exact g_us) | (rw [g_un (by omega), g_un (by omega), g_un (by omega)]; assumption) | ((repeat (rw [g_un (by omega)])); first | exact g_us | assumption)) ?_
                  refine r_astore4 dJ1_put_2_151 ?_
                  refine r_goto (tgt := 196) dJ1_put_2_153 (by decide) ?_
                  refine r_aload4 dJ1_put_2_196 ?_
                  refine r_ifnonnull (tgt := 123) dJ1_put_2_198 (by decide) ?_
                  exact ih M1 Y z (.ref y) _ _ _ sl i1 (fun z hz => i2 z (by simp [hz])) g_c1i g_c1r
              · dsimp only at h9; omega
              · dsimp only at h9; omega
          · cases Y with
            | nil =>
              simp only [List.nil_append, List.cons.injEq, Prod.mk.injEq] at e2
              obtain ⟨⟨rfl, rfl, rfl⟩, rfl⟩ := e2
              rcases hr with ⟨-, hr⟩ | ⟨e9, -⟩ | ⟨-, hr⟩
              · omega
              · exact here ⟨rfl, rfl, rfl⟩ e9
              · omega
            | cons w Y =>
              simp only [List.cons_append, List.cons.injEq] at e2
              obtain ⟨rfl, rfl⟩ := e2
              have h9 := s1 _ (i1 (y, kb, vb) (by simp))
              rcases hr with ⟨-, hr⟩ | ⟨-, hr⟩ | ⟨rfl, -⟩
              · dsimp only at h9; omega
              · dsimp only at h9; omega
              · rcases sg.vr ⟨f, sr⟩ with rfl | ⟨z, rfl⟩
                · exact absurd (sg.null ⟨f, sr⟩) (by simp)
                · skip
                  refine r_istore5 dJ1_put_2_139 ?_
                  refine r_iload5 dJ1_put_2_141 ?_
                  refine r_if_geN (tgt := 156) dJ1_put_2_143 (by decide) (by omega) (fun c143 => ?_) (fun c143 => absurd c143 (by omega))
                  refine r_iload5 dJ1_put_2_156 ?_
                  refine r_if_leN (tgt := 171) dJ1_put_2_158 (by decide) (by omega) (fun c158 => absurd c158 (by omega)) (fun c158 => ?_)
                  refine r_aload4 dJ1_put_2_161 ?_
                  refine f_J1_114_J21 dJ1_put_2_163 (by first | assumption | exact g_us | (rw [g_un (by omega)]; assumption) | (rw [g_un (by omega)]; exact g_us) | (rw [g_un (by omega), g_un (by omega)]; assumption) | (rw [g_un (by omega), g_un (by omega)]; exact g_us) | (rw [g_un (by omega), g_un (by omega), g_un (by omega)]; assumption) | ((repeat (rw [g_un (by omega)])); first | exact g_us | assumption)) ?_
                  refine r_astore4 dJ1_put_2_166 ?_
                  refine r_goto (tgt := 196) dJ1_put_2_168 (by decide) ?_
                  refine r_aload4 dJ1_put_2_196 ?_
                  refine r_ifnonnull (tgt := 123) dJ1_put_2_198 (by decide) ?_
                  exact ih Y M2 z (.ref y) _ _ _ sr (fun z hz => i1 z (by simp [hz])) i2 g_c1i g_c1r
        obtain ⟨x', e1, kx⟩ := kx
        cases e1
        obtain ⟨kb1, e2, kb9⟩ := kb9
        dsimp only at e2
        subst e2
        rcases kx with ⟨rfl, i, hi, ei, ez⟩ | ⟨rfl, l8, r8, hl8, hr8, ei, ez⟩
        · rcases kb9 with ⟨-, i', hi', ei', ez'⟩ | ⟨e, -⟩
          · dsimp only at ez'
            refine r_aload4 dJ1_put_2_123 ?_
            refine r_astore6 dJ1_put_2_125 ?_
            refine r_aload8 dJ1_put_2_127 ?_
            refine r_aload4 dJ1_put_2_129 ?_
            refine f_J1_105_J21 dJ1_put_2_131 (by first | assumption | exact g_us | (rw [g_un (by omega)]; assumption) | (rw [g_un (by omega)]; exact g_us) | (rw [g_un (by omega), g_un (by omega)]; assumption) | (rw [g_un (by omega), g_un (by omega)]; exact g_us) | (rw [g_un (by omega), g_un (by omega), g_un (by omega)]; assumption) | ((repeat (rw [g_un (by omega)])); first | exact g_us | assumption)) ?_
            refine r_callF (M' := mJ14_compareTo) _ dJ1_put_2_134 q1815 q1002 q1001 rfl q1028 q1030 q1031 q1029 q1027 rfl (lw_all_tbl q1032) q144 (by exact (⟨by decide, by decide, by decide +kernel⟩ : g_pl ⟨"java/lang/Comparable", "compareTo", "(Ljava/lang/Object;)I"⟩ 1)) gc_J14 ei ((k_J14_compareTo ei ei')) (by omega) (Nat.le_of_ble_eq_true rfl) (by omega) (by omega) rfl (Nat.le_of_ble_eq_true rfl) rfl (kI fun r134 h134 n134 e134 => ?_) kN
            obtain ⟨e134, q8, q7⟩ := e134; have q8 := q8.symm; have q7 := q7.symm; subst q8; subst q7; subst e134
            exact cont _ (by rw [ez, ez']; exact cmI_S hi hi')
          · cases e
        · rcases kb9 with ⟨e, -⟩ | ⟨-, l9, r9, hl9, hr9, ei', ez'⟩
          · cases e
          · dsimp only at ez'
            refine r_aload4 dJ1_put_2_123 ?_
            refine r_astore6 dJ1_put_2_125 ?_
            refine r_aload8 dJ1_put_2_127 ?_
            refine r_aload4 dJ1_put_2_129 ?_
            refine f_J1_105_J21 dJ1_put_2_131 (by first | assumption | exact g_us | (rw [g_un (by omega)]; assumption) | (rw [g_un (by omega)]; exact g_us) | (rw [g_un (by omega), g_un (by omega)]; assumption) | (rw [g_un (by omega), g_un (by omega)]; exact g_us) | (rw [g_un (by omega), g_un (by omega), g_un (by omega)]; assumption) | ((repeat (rw [g_un (by omega)])); first | exact g_us | assumption)) ?_
            refine r_callF (M' := mX10_compareTo) _ dJ1_put_2_134 q1815 q1002 q1001 rfl q1016 q1018 q1019 q1017 q1015 rfl (lw_all_tbl q1020) q180 (by exact (⟨by decide, by decide, by decide +kernel⟩ : g_pl ⟨"java/lang/Comparable", "compareTo", "(Ljava/lang/Object;)I"⟩ 1)) gc_X10 ei ((k_X10_compareTo hl8 hr8 hl9 hr9 ei ei')) (by omega) (Nat.le_of_ble_eq_true rfl) (by omega) (by omega) rfl (Nat.le_of_ble_eq_true rfl) rfl (kI fun r134 h134 n134 e134 => ?_) kN
            obtain ⟨e134, q8, q7⟩ := e134; have q8 := q8.symm; have q7 := q7.symm; subst q8; subst q7
            exact cont _ (by rw [ez, ez']; exact e134)
  rcases sg.vr ⟨f0, sN⟩ with rfl | ⟨z, rfl⟩
  · exact absurd (sg.null ⟨f0, sN⟩) (by simp)
  · have kx1 := kx
    obtain ⟨x', e1, kx1⟩ := kx1
    cases e1
    rcases kx1 with ⟨rfl, i, hi, ei, ez⟩ | ⟨rfl, l8, r8, hl8, hr8, ei, ez⟩
    · skip
      refine g_Met.of (M := mJ1_put_2) (L := [some (.ref mp), some (.ref x), some (.ref vx), some (.int (nI 1)), none, none, none, none, none, none]) (by decide +kernel) (Nat.le_of_ble_eq_true rfl) rfl ?_
      refine r_aload0 dJ1_put_2_0 ?_
      refine f_J1_101_J1 dJ1_put_2_1 (by first | assumption | exact g_us | (rw [g_un (by omega)]; assumption) | (rw [g_un (by omega)]; exact g_us) | (rw [g_un (by omega), g_un (by omega)]; assumption) | (rw [g_un (by omega), g_un (by omega)]; exact g_us) | (rw [g_un (by omega), g_un (by omega), g_un (by omega)]; assumption) | ((repeat (rw [g_un (by omega)])); first | exact g_us | assumption)) ?_
      refine r_astore4 dJ1_put_2_4 ?_
      refine r_aload4 dJ1_put_2_6 ?_
      refine r_ifnonnull (tgt := 19) dJ1_put_2_8 (by decide) ?_
      refine r_aload0 dJ1_put_2_19 ?_
      refine f_J1_16_J1 dJ1_put_2_20 (by first | assumption | exact g_us | (rw [g_un (by omega)]; assumption) | (rw [g_un (by omega)]; exact g_us) | (rw [g_un (by omega), g_un (by omega)]; assumption) | (rw [g_un (by omega), g_un (by omega)]; exact g_us) | (rw [g_un (by omega), g_un (by omega), g_un (by omega)]; assumption) | ((repeat (rw [g_un (by omega)])); first | exact g_us | assumption)) ?_
      refine r_astoreZ7 dJ1_put_2_23 ?_
      refine r_aloadZ7 dJ1_put_2_25 ?_
      refine r_ifnullZ (tgt := 112) dJ1_put_2_27 (by decide) ?_
      refine r_aload1 dJ1_put_2_112 ?_
      refine r_callS (M' := mJ22_requireNonNull) _ dJ1_put_2_113 q1810 q1811 rfl (lw_all_tbl q1812) q155 (by exact pl_J22_requireNonNull)  (k_requireNonNull) (by omega) (Nat.le_of_ble_eq_true rfl) (by omega) (by omega) rfl (Nat.le_of_ble_eq_true rfl) rfl (kA fun r113 h113 n113 t113 e113 => ?_) kN
      obtain ⟨q9, q8, q7⟩ := e113; have q9 := q9.symm; have q8 := q8.symm; have q7 := q7.symm; subst q9; subst q8; subst q7
      refine r_pop dJ1_put_2_116 ?_
      refine r_aload1 dJ1_put_2_117 ?_
      refine r_checkcast dJ1_put_2_118 gc_J14 q1813 (Or.inr q1027) ei ?_
      refine r_astore8 dJ1_put_2_121 ?_
      exact loop f0 L1 L2 z .null none none none sN (fun z hz => hz) (fun z hz => hz) g_c1n g_c1n
    · skip
      refine g_Met.of (M := mJ1_put_2) (L := [some (.ref mp), some (.ref x), some (.ref vx), some (.int (nI 1)), none, none, none, none, none, none]) (by decide +kernel) (Nat.le_of_ble_eq_true rfl) rfl ?_
      refine r_aload0 dJ1_put_2_0 ?_
      refine f_J1_101_J1 dJ1_put_2_1 (by first | assumption | exact g_us | (rw [g_un (by omega)]; assumption) | (rw [g_un (by omega)]; exact g_us) | (rw [g_un (by omega), g_un (by omega)]; assumption) | (rw [g_un (by omega), g_un (by omega)]; exact g_us) | (rw [g_un (by omega), g_un (by omega), g_un (by omega)]; assumption) | ((repeat (rw [g_un (by omega)])); first | exact g_us | assumption)) ?_
      refine r_astore4 dJ1_put_2_4 ?_
      refine r_aload4 dJ1_put_2_6 ?_
      refine r_ifnonnull (tgt := 19) dJ1_put_2_8 (by decide) ?_
      refine r_aload0 dJ1_put_2_19 ?_
      refine f_J1_16_J1 dJ1_put_2_20 (by first | assumption | exact g_us | (rw [g_un (by omega)]; assumption) | (rw [g_un (by omega)]; exact g_us) | (rw [g_un (by omega), g_un (by omega)]; assumption) | (rw [g_un (by omega), g_un (by omega)]; exact g_us) | (rw [g_un (by omega), g_un (by omega), g_un (by omega)]; assumption) | ((repeat (rw [g_un (by omega)])); first | exact g_us | assumption)) ?_
      refine r_astoreZ7 dJ1_put_2_23 ?_
      refine r_aloadZ7 dJ1_put_2_25 ?_
      refine r_ifnullZ (tgt := 112) dJ1_put_2_27 (by decide) ?_
      refine r_aload1 dJ1_put_2_112 ?_
      refine r_callS (M' := mJ22_requireNonNull) _ dJ1_put_2_113 q1810 q1811 rfl (lw_all_tbl q1812) q155 (by exact pl_J22_requireNonNull)  (k_requireNonNull) (by omega) (Nat.le_of_ble_eq_true rfl) (by omega) (by omega) rfl (Nat.le_of_ble_eq_true rfl) rfl (kA fun r113 h113 n113 t113 e113 => ?_) kN
      obtain ⟨q9, q8, q7⟩ := e113; have q9 := q9.symm; have q8 := q8.symm; have q7 := q7.symm; subst q9; subst q8; subst q7
      refine r_pop dJ1_put_2_116 ?_
      refine r_aload1 dJ1_put_2_117 ?_
      refine r_checkcast dJ1_put_2_118 gc_X10 q1813 (Or.inr q1015) ei ?_
      refine r_astore8 dJ1_put_2_121 ?_
      exact loop f0 L1 L2 z .null none none none sN (fun z hz => hz) (fun z hz => hz) g_c1n g_c1n
theorem k_putOld {b : Bool} {mp x vx : Nat} {L1 L2 : List c_N} {mc : Int32} {nk kk v : Value} {ky : Value → Int} (bm : k_b K ≤ mp) (T : tm K mp (L1 ++ (a, kk, v) :: L2) mc nk h) (hk : ∀ z ∈ L1 ++ (a, kk, v) :: L2, kyc b h z.2.1 (ky z.2.1)) (s1 : ∀ z ∈ L1, ky z.2.1 < ky kk) (s2 : ∀ z ∈ L2, ky kk < ky z.2.1) (kx : kyc b h (.ref x) (ky kk)) (hv : v = .null ∨ ∃ z, v = .ref z) : g_Met K mJ1_put 5 0 0 [.ref mp, .ref x, .ref vx] h n (gA fun r h' n' => r = v ∧ tm K mp (L1 ++ (a, kk, .ref vx) :: L2) mc nk h' ∧ (∀ z : Nat, z ≠ a → h' z = h z) ∧ n' = n) gN := by
  have T1 := T.1
  obtain ⟨t, hm, -⟩ := T1
  refine g_Met.of (M := mJ1_put) (L := [some (.ref mp), some (.ref x), some (.ref vx)]) (by decide +kernel) (Nat.le_of_ble_eq_true rfl) rfl ?_
  refine r_aload0 dJ1_put_0 ?_
  refine r_aload1 dJ1_put_1 ?_
  refine r_aload2 dJ1_put_2 ?_
  refine r_iconst (v := nI 1) dJ1_put_3 (by decide) ?_
  refine r_callV (M' := mJ1_put_2) _ dJ1_put_4 q1988 q1990 qs23 rfl (lw_all_tbl q1991) q128 (by exact pl_J1_put_2) gc_J1 hm ((k_putOld2 bm T hk s1 s2 kx hv)) (by omega) (Nat.le_of_ble_eq_true rfl) (by omega) (by omega) rfl (Nat.le_of_ble_eq_true rfl) rfl (kA fun r4 h4 n4 t4 e4 => ?_) kN
  obtain ⟨rfl, e4a, e4b, rfl⟩ := e4
  exact r_areturn dJ1_put_7 rfl (Or.inl ⟨_, rfl⟩) hv (⟨rfl, e4a, e4b, rfl⟩)
theorem k_J24_init {s mp : Nat} {v0 : Value} (hb : k_b K ≤ s) (ho : h s = some (g_ob 25 [v0])) : g_Met K mJ24_init 3 0 0 [.ref s, .ref mp] h n (gV fun h' n' => h' = g_up h s (g_ob 25 [.ref mp]) ∧ n' = n) gN := by
  refine g_Met.of (M := mJ24_init) (L := [some (.ref s), some (.ref mp)]) (by decide +kernel) (Nat.le_of_ble_eq_true rfl) rfl ?_
  refine r_aload0 dJ24_init_0 ?_
  refine r_callI (M' := mJ23_init) _ dJ24_init_1 q1693 q1694 rfl rfl rfl (lw_all_tbl q1695) q156 (by exact pl_J23_init)  (k_J23_init) (by omega) (Nat.le_of_ble_eq_true rfl) (by omega) (by omega) rfl (Nat.le_of_ble_eq_true rfl) rfl (kV fun h1 n1 e1 => ?_) kN
  obtain ⟨q8, q7⟩ := e1; have q8 := q8.symm; have q7 := q7.symm; subst q8; subst q7
  refine r_aload0 dJ24_init_4 ?_
  refine r_aload1 dJ24_init_5 ?_
  refine p_J24_7_J24 dJ24_init_6 (by omega) (by first | assumption | exact g_us | (rw [g_un (by omega)]; assumption) | (rw [g_un (by omega)]; exact g_us) | (rw [g_un (by omega), g_un (by omega)]; assumption) | (rw [g_un (by omega), g_un (by omega)]; exact g_us) | (rw [g_un (by omega), g_un (by omega), g_un (by omega)]; assumption) | ((repeat (rw [g_un (by omega)])); first | exact g_us | assumption)) ?_
  exact r_return dJ24_init_9 rfl (⟨rfl, rfl⟩)
/-- the key set: cached, or made now -/
def ksP (K : g_K) (mp : Nat) (L : List c_N) (mc : Int32) (h : g_P) (n : Nat) (r : Value) (h' : g_P) (n' : Nat) : Prop := ∃ s, r = .ref s ∧ tm K mp L mc (.ref s) h' ∧ h' s = some (g_ob 25 [.ref mp]) ∧ (∀ z : Nat, z < n → z ≠ mp → h' z = h z) ∧ n ≤ n' ∧ n' ≤ n + 1 ∧ (s < n → h' = h) ∧ (∀ z : Nat, n' ≤ z → h' z = h z) ∧ (h' = h ∨ ∃ t, h mp = some (trM t (.int (nI L.length)) (.int mc) .null) ∧ h' mp = some (trM t (.int (nI L.length)) (.int mc) (.ref s)) ∧ n ≤ s ∧ s < n')
theorem k_nks {mp : Nat} {L : List c_N} {mc : Int32} {nk : Value} (bm : k_b K ≤ mp) (T : tm K mp L mc nk h) (hn : nk = .null ∨ ∃ s, nk = .ref s ∧ h s = some (g_ob 25 [.ref mp])) : g_Met K mJ1_navigableKeySet 4 1 1 [.ref mp] h n (gA fun r h' n' => ksP K mp L mc h n r h' n') gN := by
  refine g_Met.facts fun f1 f2 f3 => ?_
  have T0 := T
  obtain ⟨⟨t, hm, sN, rb⟩, T2⟩ := T
  have lm := f2 _ _ hm
  refine g_Met.of (M := mJ1_navigableKeySet) (L := [some (.ref mp), none]) (by decide +kernel) (Nat.le_of_ble_eq_true rfl) rfl ?_
  rcases hn with rfl | ⟨s, rfl, hs⟩
  · have lt : ∀ z ∈ L, z.1 ≠ n := by
      intro z hz
      obtain ⟨L1, L2, e⟩ := List.append_of_mem hz
      obtain ⟨j, A1, A2, B1, B2, l, r, q, c, -, -, ea, -⟩ := sN.foc (a := z.1) (kk := z.2.1) (v := z.2.2) e (k := 0) (A := []) (B := []) (t := t) ⟨rfl, rfl, rfl, rfl⟩
      have := f2 _ _ ea
      omega
    refine r_aload0 dJ1_navigableKeySet_0 ?_
    refine f_J1_191_J1 dJ1_navigableKeySet_1 (by first | assumption | exact g_us | (rw [g_un (by omega)]; assumption) | (rw [g_un (by omega)]; exact g_us) | (rw [g_un (by omega), g_un (by omega)]; assumption) | (rw [g_un (by omega), g_un (by omega)]; exact g_us) | (rw [g_un (by omega), g_un (by omega), g_un (by omega)]; assumption) | ((repeat (rw [g_un (by omega)])); first | exact g_us | assumption)) ?_
    refine r_astoreZ1 dJ1_navigableKeySet_4 ?_
    refine r_aloadZ1 dJ1_navigableKeySet_5 ?_
    refine r_ifnullZ (tgt := 13) dJ1_navigableKeySet_6 (by decide) ?_
    refine r_aload0 dJ1_navigableKeySet_13 ?_
    refine n_J1_222 dJ1_navigableKeySet_14 (by omega) (by omega) ?_
    refine r_dup dJ1_navigableKeySet_17 ?_
    refine r_aload0 dJ1_navigableKeySet_18 ?_
    refine r_callI (M' := mJ24_init) _ dJ1_navigableKeySet_19 q1690 q1691 rfl rfl rfl (lw_all_tbl q1692) q157 (by exact pl_J24_init)  ((k_J24_init (s := n) f1 g_us)) (by omega) (Nat.le_of_ble_eq_true rfl) (by omega) (by omega) rfl (Nat.le_of_ble_eq_true rfl) rfl (kV fun h19 n19 e19 => ?_) kN
    obtain ⟨q8, q7⟩ := e19; have q8 := q8.symm; have q7 := q7.symm; subst q8; subst q7
    refine r_dup_x1 dJ1_navigableKeySet_22 ?_
    refine p_J1_191_J1 dJ1_navigableKeySet_23 (by omega) (by rw [g_un (by omega), g_un (by omega)]; exact hm) ?_
    exact r_areturn dJ1_navigableKeySet_26 rfl (Or.inl ⟨_, rfl⟩) (Or.inr ⟨_, rfl⟩) (⟨n, rfl, ⟨⟨t, g_us, ((sN.up lt).up lt).up T2.2.1, fun b kk v l r q c e1 e2 => by
          subst e1
          obtain ⟨k9, v9, l9, r9, c9, A9, B9, eq9, e9, -⟩ := sN.mem
          have z9 : b ≠ mp := T2.2.1 (b, k9, v9) (by rw [eq9]; simp)
          have z8 : b ≠ n := lt (b, k9, v9) (by rw [eq9]; simp)
          rw [g_un z9, g_un z8, g_un z8] at e2
          exact rb _ _ _ _ _ _ _ rfl e2⟩, T2⟩, by rw [g_un (by omega), g_us], fun z z1 z2 => by rw [g_un z2, g_un (Nat.ne_of_lt z1), g_un (Nat.ne_of_lt z1)], Nat.le_succ _, Nat.le_refl _, fun e => absurd e (Nat.lt_irrefl _), fun z z1 => by rw [g_un (by omega), g_un (by omega), g_un (by omega)], Or.inr ⟨t, hm, g_us, Nat.le_refl _, Nat.lt_succ_self _⟩⟩)
  · have ls := f2 _ _ hs
    refine r_aload0 dJ1_navigableKeySet_0 ?_
    refine f_J1_191_J1 dJ1_navigableKeySet_1 (by first | assumption | exact g_us | (rw [g_un (by omega)]; assumption) | (rw [g_un (by omega)]; exact g_us) | (rw [g_un (by omega), g_un (by omega)]; assumption) | (rw [g_un (by omega), g_un (by omega)]; exact g_us) | (rw [g_un (by omega), g_un (by omega), g_un (by omega)]; assumption) | ((repeat (rw [g_un (by omega)])); first | exact g_us | assumption)) ?_
    refine r_astore1 dJ1_navigableKeySet_4 ?_
    refine r_aload1 dJ1_navigableKeySet_5 ?_
    refine r_ifnull dJ1_navigableKeySet_6 ?_
    refine r_aload1 dJ1_navigableKeySet_9 ?_
    refine r_goto (tgt := 26) dJ1_navigableKeySet_10 (by decide) ?_
    exact r_areturn dJ1_navigableKeySet_26 rfl (Or.inl ⟨_, rfl⟩) (Or.inr ⟨_, rfl⟩) (⟨s, rfl, T0, hs, fun _ _ _ => rfl, by omega, by omega, fun _ => rfl, fun _ _ => rfl, Or.inl rfl⟩)
theorem k_keySet {mp : Nat} {L : List c_N} {mc : Int32} {nk : Value} (bm : k_b K ≤ mp) (T : tm K mp L mc nk h) (hn : nk = .null ∨ ∃ s, nk = .ref s ∧ h s = some (g_ob 25 [.ref mp])) : g_Met K mJ1_keySet 5 1 1 [.ref mp] h n (gA fun r h' n' => ksP K mp L mc h n r h' n') gN := by
  have T1 := T.1
  obtain ⟨t, hm, -⟩ := T1
  refine g_Met.of (M := mJ1_keySet) (L := [some (.ref mp)]) (by decide +kernel) (Nat.le_of_ble_eq_true rfl) rfl ?_
  refine r_aload0 dJ1_keySet_0 ?_
  refine r_callV (M' := mJ1_navigableKeySet) _ dJ1_keySet_1 q1684 q1685 q1686 rfl (lw_all_tbl q1687) q128 (by exact pl_J1_navigableKeySet) gc_J1 (by first | assumption | exact g_us | (rw [g_un (by omega)]; assumption) | (rw [g_un (by omega)]; exact g_us) | (rw [g_un (by omega), g_un (by omega)]; assumption) | (rw [g_un (by omega), g_un (by omega)]; exact g_us) | (rw [g_un (by omega), g_un (by omega), g_un (by omega)]; assumption) | ((repeat (rw [g_un (by omega)])); first | exact g_us | assumption)) ((k_nks bm T hn)) (by omega) (Nat.le_of_ble_eq_true rfl) (by omega) (by omega) rfl (Nat.le_of_ble_eq_true rfl) rfl (kA fun r1 h1 n1 t1 e1 => ?_) kN
  obtain ⟨s, rfl, e1⟩ := e1
  exact r_areturn dJ1_keySet_4 rfl (Or.inl ⟨_, rfl⟩) (Or.inr ⟨_, rfl⟩) (⟨s, rfl, e1⟩)
theorem k_J24_iterator {s mp : Nat} {L : List c_N} {mc : Int32} {nk : Value} (T : tm K mp L mc nk h) (hs : h s = some (g_ob 25 [.ref mp])) : g_Met K mJ24_iterator 4 1 4 [.ref s] h n (gA fun r h' n' => r = .ref n ∧ h' = g_up h n (g_ob 26 [hdV L, .null, .int mc, .ref mp]) ∧ n' = n + 1) gN := by
  have T1 := T.1
  obtain ⟨t, hm, -⟩ := T1
  refine g_Met.of (M := mJ24_iterator) (L := [some (.ref s)]) (by decide +kernel) (Nat.le_of_ble_eq_true rfl) rfl ?_
  refine r_aload0 dJ24_iterator_0 ?_
  refine f_J24_7_J24 dJ24_iterator_1 (by first | assumption | exact g_us | (rw [g_un (by omega)]; assumption) | (rw [g_un (by omega)]; exact g_us) | (rw [g_un (by omega), g_un (by omega)]; assumption) | (rw [g_un (by omega), g_un (by omega)]; exact g_us) | (rw [g_un (by omega), g_un (by omega), g_un (by omega)]; assumption) | ((repeat (rw [g_un (by omega)])); first | exact g_us | assumption)) ?_
  refine r_instY dJ24_iterator_4 gc_J1 q1711 (Or.inl rfl) hm ?_
  refine r_if_eq (tgt := 21) dJ24_iterator_7 (by decide) (fun c7 => absurd c7 ((by decide))) (fun c7 => ?_)
  refine r_aload0 dJ24_iterator_10 ?_
  refine f_J24_7_J24 dJ24_iterator_11 (by first | assumption | exact g_us | (rw [g_un (by omega)]; assumption) | (rw [g_un (by omega)]; exact g_us) | (rw [g_un (by omega), g_un (by omega)]; assumption) | (rw [g_un (by omega), g_un (by omega)]; exact g_us) | (rw [g_un (by omega), g_un (by omega), g_un (by omega)]; assumption) | ((repeat (rw [g_un (by omega)])); first | exact g_us | assumption)) ?_
  refine r_checkcast dJ24_iterator_14 gc_J1 q1711 (Or.inl rfl) hm ?_
  refine r_callV (M' := mJ1_keyIterator) _ dJ24_iterator_17 q1712 q1713 q1714 rfl (lw_all_tbl q1715) q128 (by exact pl_J1_keyIterator) gc_J1 hm ((k_keyIterator T)) (by omega) (Nat.le_of_ble_eq_true rfl) (by omega) (by omega) rfl (Nat.le_of_ble_eq_true rfl) rfl (kA fun r17 h17 n17 t17 e17 => ?_) kN
  obtain ⟨q9, q8, q7⟩ := e17; have q9 := q9.symm; have q8 := q8.symm; have q7 := q7.symm; subst q9; subst q8; subst q7
  exact r_areturn dJ24_iterator_20 rfl (Or.inl ⟨_, rfl⟩) (Or.inr ⟨_, rfl⟩) (⟨rfl, rfl, rfl⟩)
end
