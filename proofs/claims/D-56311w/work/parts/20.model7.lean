/-! the reference's changes: what a call leaves -/
set_option maxRecDepth 100000
theorem fup_fup {α : Type} {f : Nat → α} {j : Nat} {x y : α} : fup (fup f j x) j y = fup f j y := by
  funext q
  by_cases h : q = j
  · subst h; rw [fup_s, fup_s]
  · rw [fup_n h, fup_n h, fup_n h]
/-- thrown = 0 -/
def vZ (V : Nat → Nat → Int32) : Nat → Nat → Int32 := up1 V 0 (fup (V 0) 0 (nI 0))
theorem vZ_n {V : Nat → Nat → Int32} {i : Nat} (h : i ≠ 0) : vZ V 0 i = V 0 i := by
  unfold vZ
  rw [up1_s, fup_n h]
theorem vZ_0 {V : Nat → Nat → Int32} : vZ V 0 0 = nI 0 := by
  unfold vZ
  rw [up1_s, fup_s]
theorem vZ_c {V : Nat → Nat → Int32} {c : Nat} (h : c ≠ 0) : vZ V c = V c := up1_n h
theorem vZ_vZ {V : Nat → Nat → Int32} : vZ (vZ V) = vZ V := by
  unfold vZ
  rw [up1_s, up1_up1, fup_fup]
/-- the fields that count between the calls are alike -/
def vE (V V' : Nat → Nat → Int32) : Prop := (∀ i, i ∈ [5, 6, 7, 13, 15, 17, 18, 19] → V' 0 i = V 0 i) ∧ V' 6 = V 6 ∧ V' 7 = V 7
theorem vE.rf {V : Nat → Nat → Int32} : vE V V := ⟨fun _ _ => rfl, rfl, rfl⟩
theorem vE.tr {V V1 V2 : Nat → Nat → Int32} (x : vE V V1) (y : vE V1 V2) : vE V V2 := ⟨fun i h => (y.1 i h).trans (x.1 i h), y.2.1.trans x.2.1, y.2.2.trans x.2.2⟩
theorem vE.put {V : Nat → Nat → Int32} {i : Nat} {x : Int32} (h : ∀ j, j ∈ [5, 6, 7, 13, 15, 17, 18, 19] → j ≠ i) : vE V (up1 V 0 (fup (V 0) i x)) :=
  ⟨fun j hj => by rw [up1_s, fup_n (h j hj)], up1_n (by decide), up1_n (by decide)⟩
theorem vE.row {V : Nat → Nat → Int32} {c : Nat} {g : Nat → Int32} (h : c = 5 ∨ c = 8) : vE V (up1 V c g) :=
  ⟨fun j _ => by rw [up1_n (by omega)], up1_n (by omega), up1_n (by omega)⟩
theorem vE.z {V : Nat → Nat → Int32} : vE V (vZ V) := vE.put (by decide)
/-- the rows after 'remembers' -/
def rR {α : Type} (R : Nat → Nat → α) (c f : Nat) : Nat → Nat → α := up1 (up1 R 4 (R 1)) (10 + (rgf c f + rgc c) % 8) (R 1)
theorem rR_1 {α : Type} {R : Nat → Nat → α} {c f : Nat} : rR R c f 1 = R 1 := by
  unfold rR
  rw [up1_n (by omega), up1_n (by decide)]
/-- what is left of a call that may change the row: e its exception's place, res its answer -/
def mC (a : Nat) (V : Nat → Nat → Int32) (R : Nat → Nat → Nat) (A : Nat → Nat → Int64) (c f e res : Nat) (ρ : Nat → Nat) (α : Nat → Int64) (r : Int32) (h' : g_P) : Prop :=
  (e ≠ 0 → ∃ V', mS a V' R A h' ∧ V' 0 0 = nI e ∧ vE V V') ∧
  (e = 0 → r = nI res ∧ ∃ V', mS a V' (up1 (rR R c f) 1 ρ) (up1 (rR A c f) 1 α) h' ∧ V' 0 0 = nI 0 ∧ V' 0 5 = nI (rgc c + 1) ∧ V' 0 6 = nI (rgf c f) ∧ (∀ i, i ∈ [7, 13, 15, 17, 18, 19] → V' 0 i = V 0 i) ∧ V' 6 = V 6 ∧ V' 7 = V 7)
/-- what is left of a question -/
def mQ (a : Nat) (V : Nat → Nat → Int32) (R : Nat → Nat → Nat) (A : Nat → Nat → Int64) (e res : Nat) (r : Int32) (h' : g_P) : Prop :=
  ∃ V', mS a V' R A h' ∧ V' 0 0 = nI e ∧ vE V V' ∧ (e = 0 → r = nI res)
section
variable {a : Nat} {V : Nat → Nat → Int32} {R : Nat → Nat → Nat} {A : Nat → Nat → Int64} {h' : g_P} {c f e res : Nat} {ρ : Nat → Nat} {α : Nat → Int64} {r : Int32}
theorem mS.z {h : g_P} {cc : g_C} (m : mS a V R A h) (e : cc = g_ob 2 (mF a (fup (V 0) 0 (nI 0)))) : mS a (vZ V) R A (g_up h a cc) := m.oo e
theorem mS.goZ {K : g_K} {M : g_M} {d bc bs n : Nat} {P : g_Q} {X : g_X} {pc : Nat} {L : List (Option Value)} {st : List Value} {h : g_P} (m : mS a V R A h) (k : ∀ h0, mS a (vZ V) R A h0 → mT a h h0 → g_G K M d bc bs P X pc L st h0 n) : g_G K M d bc bs P X pc L st (g_up h a (g_ob 2 (mF a (fup (V 0) 0 (nI 0))))) n := k _ (m.z rfl) (mT.up (k := 0) (by decide))
theorem mS.fz (m : mS a (up1 (vZ V) 0 (fup (vZ V 0) 0 (nI e))) R A h') : ∃ V', mS a V' R A h' ∧ V' 0 0 = nI e ∧ vE V V' := ⟨_, m, by rw [up1_s, fup_s], vE.z.tr (vE.put (by decide))⟩
theorem mC.no (he : e ≠ 0) (m : mS a (up1 (vZ V) 0 (fup (vZ V 0) 0 (nI e))) R A h') : mC a V R A c f e res ρ α r h' := ⟨fun _ => m.fz, fun z => absurd z he⟩
theorem mC.yes (he : e = 0) (hr : r = nI res) (m : mS a (up1 (vZ V) 0 (fup (fup (vZ V 0) 6 (nI (rgf c f))) 5 (nI (rgc c + 1)))) (up1 (rR R c f) 1 ρ) (up1 (rR A c f) 1 α) h') : mC a V R A c f e res ρ α r h' := by
  refine ⟨fun z => absurd he z, fun _ => ⟨hr, _, m, ?_, ?_, ?_, fun i hi => ?_, ?_, ?_⟩⟩
  · rw [up1_s, fup_n (by decide), fup_n (by decide), vZ_0]
  · rw [up1_s, fup_s]
  · rw [up1_s, fup_n (by decide), fup_s]
  · have h1 : i ≠ 5 ∧ i ≠ 6 ∧ i ≠ 0 := by
      simp only [List.mem_cons, List.not_mem_nil, or_false] at hi
      omega
    rw [up1_s, fup_n h1.1, fup_n h1.2.1, vZ_n h1.2.2]
  · rw [up1_n (by decide), vZ_c (by decide)]
  · rw [up1_n (by decide), vZ_c (by decide)]
theorem mQ.no (he : e ≠ 0) (m : mS a (up1 (vZ V) 0 (fup (vZ V 0) 0 (nI e))) R A h') : mQ a V R A e res r h' := by
  obtain ⟨V', m1, m2, m3⟩ := m.fz
  exact ⟨V', m1, m2, m3, fun z => absurd z he⟩
theorem mQ.yes {V1 : Nat → Nat → Int32} (he : e = 0) (hr : r = nI res) (m : mS a V1 R A h') (h0 : V1 0 0 = nI 0) (hv : vE V V1) : mQ a V R A e res r h' := ⟨V1, m, by rw [h0, he], hv, fun _ => hr⟩
theorem mQ.z (he : e = 0) (hr : r = nI res) (m : mS a (vZ V) R A h') : mQ a V R A e res r h' := mQ.yes he hr m vZ_0 vE.z
end
section
variable {ρ : Nat → Nat} {p q : Int32}
theorem eAd_b : eAd ρ p q ≤ 2 := by unfold eAd; split <;> (try split) <;> omega
theorem eBo_b : eBo ρ p ≤ 2 := by unfold eBo; split <;> (try split) <;> omega
theorem eLo_b : eLo ρ p q ≤ 2 := by unfold eLo; split <;> (try split) <;> omega
theorem eMx_b : eMx ρ p q ≤ 3 := by unfold eMx; split <;> (try split) <;> (try split) <;> omega
theorem eSc_b : eSc ρ p ≤ 2 := by unfold eSc; split <;> (try split) <;> omega
theorem ePo_b : ePo ρ p q ≤ 1 := by unfold ePo; split <;> omega
theorem eBa_b : eBa ρ p ≤ 3 := by unfold eBa; split <;> (try split) <;> (try split) <;> omega
theorem eOv_b : eOv p ≤ 1 := by unfold eOv; split <;> omega
theorem eAd_0 (h : eAd ρ p q = 0) : bt p 0 9999 ∧ bt q 1 12 ∧ ρ 0 ≠ 6 := by
  unfold eAd at h
  split at h
  · omega
  · rename_i h1
    split at h
    · omega
    · rename_i h2
      exact ⟨(Decidable.not_not.mp h1).1, (Decidable.not_not.mp h1).2, h2⟩
theorem eBo_0 (h : eBo ρ p = 0) : bt p 1 9999 ∧ ρ 1 ≠ 5 := by
  unfold eBo at h
  split at h
  · omega
  · rename_i h1
    split at h
    · omega
    · rename_i h2
      exact ⟨Decidable.not_not.mp h1, h2⟩
theorem eLo_0 (h : eLo ρ p q = 0) : bt p 1 20 ∧ bt q 1 60 ∧ ρ 2 ≠ 8 := by
  unfold eLo at h
  split at h
  · omega
  · rename_i h1
    split at h
    · omega
    · rename_i h2
      exact ⟨(Decidable.not_not.mp h1).1, (Decidable.not_not.mp h1).2, h2⟩
theorem eMx_0 (h : eMx ρ p q = 0) : ix p (ρ 0) ∧ ix q (ρ 0) ∧ p ≠ q ∧ sAb ρ (tN p) (tN q) / Nat.gcd (sAb ρ (tN p) (tN q)) (sBe ρ (tN p) (tN q)) ≤ 9999 ∧ sBe ρ (tN p) (tN q) / Nat.gcd (sAb ρ (tN p) (tN q)) (sBe ρ (tN p) (tN q)) ≤ 12 := by
  unfold eMx at h
  split at h
  · omega
  · rename_i h1
    split at h
    · omega
    · rename_i h2
      split at h
      · omega
      · rename_i h3
        exact ⟨(Decidable.not_not.mp h1).1, (Decidable.not_not.mp h1).2, h2, by omega, by omega⟩
theorem eSc_0 (h : eSc ρ p = 0) : bt p 0 4 ∧ cts ρ + ilv ρ = 0 := by
  unfold eSc at h
  split at h
  · omega
  · rename_i h1
    split at h
    · omega
    · rename_i h2
      exact ⟨Decidable.not_not.mp h1, by omega⟩
theorem ePo_0 (h : ePo ρ p q = 0) : ix p (ρ 0) ∧ ix q (ρ 1) := by
  unfold ePo at h
  split at h
  · assumption
  · omega
theorem eBa_0 (h : eBa ρ p = 0) : ix p (ρ 1) ∧ ρ 2 ≠ 0 ∧ ρ (23 + 2 * tN p) ≠ 0 := by
  unfold eBa at h
  split at h
  · omega
  · rename_i h1
    split at h
    · omega
    · rename_i h2
      split at h
      · omega
      · rename_i h3
        exact ⟨Decidable.not_not.mp h1, h2, h3⟩
theorem eOv_0 (h : eOv p = 0) : bt p 1 3 := by
  unfold eOv at h
  split at h
  · assumption
  · omega
end
section
variable {K : g_K} {a n u c f : Nat} {V : Nat → Nat → Int32} {R : Nat → Nat → Nat} {A : Nat → Nat → Int64} {h : g_P}
theorem k_copies (hb : k_b K ≤ a) (m : mS a V R A h) : g_Met K mX3_copies 1 0 0 [.ref a] h n (gV fun h' n' => mS a V (up1 R 4 (R 1)) (up1 A 4 (A 1)) h' ∧ mT a h h' ∧ n' = n) gN := by
  have := k_copies0 (n := n) hb m
  rw [Yo_n (by decide) (by decide), Yo_up (by decide) (by decide)] at this
  exact this
theorem k_goesBack (hb : k_b K ≤ a) (m : mS a V R A h) : g_Met K mX3_goesBack 1 0 0 [.ref a] h n (gV fun h' n' => mS a V (up1 R 1 (R 4)) (up1 A 1 (A 4)) h' ∧ mT a h h' ∧ n' = n) gN := by
  have := k_goesBack0 (n := n) hb m
  rw [Yo_n (by decide) (by decide), Yo_up (by decide) (by decide)] at this
  exact this
theorem k_keeps (hb : k_b K ≤ a) (m : mS a V R A h) (hc : V 0 5 = nI c) (hf : V 0 6 = nI f) (hc8 : c ≤ 8) (hf8 : f < 8) : g_Met K mX3_keeps 1 0 0 [.ref a] h n (gV fun h' n' => mS a (up1 V 0 (fup (fup (V 0) 6 (nI (rgf c f))) 5 (nI (rgc c + 1)))) (up1 R (10 + (rgf c f + rgc c) % 8) (R 4)) (up1 A (10 + (rgf c f + rgc c) % 8) (A 4)) h' ∧ mT a h h' ∧ n' = n) gN := by
  have := k_keeps0 (n := n) hb m hc hf hc8 hf8
  rw [Yo_u (to := (rgf c f + rgc c) % 8) (ρ := R 4) (α := A 4) (fun q => by
    unfold mxb
    have := Nat.mod_lt q (show 0 < 56 by decide)
    rw [Yo_n (c := 4) (by decide) (by decide)]
    by_cases z : q / 56 = (rgf c f + rgc c) % 8
    · rw [if_pos ⟨z, this⟩, if_pos z]
    · rw [if_neg (fun y => z y.1), if_neg z])] at this
  exact this
theorem k_remembers (hb : k_b K ≤ a) (m : mS a V R A h) (hc : V 0 5 = nI c) (hf : V 0 6 = nI f) (hc8 : c ≤ 8) (hf8 : f < 8) : g_Met K mX3_remembers 2 0 0 [.ref a] h n (gV fun h' n' => mS a (up1 V 0 (fup (fup (V 0) 6 (nI (rgf c f))) 5 (nI (rgc c + 1)))) (rR R c f) (rR A c f) h' ∧ mT a h h' ∧ n' = n) gN := by
  refine g_Met.of (M := mX3_remembers) (L := [some (.ref a)]) (by decide +kernel) (Nat.le_of_ble_eq_true rfl) rfl ?_
  refine r_aload0 dX3_remembers_0 ?_
  refine r_callV (M' := mX3_copies) _ dX3_remembers_1 q3497 q3499 qs59 rfl (lw_all_tbl q3500) q138 (by exact pl_X3_copies) gc_X3 m.1 ((k_copies hb m)) (by omega) (Nat.le_of_ble_eq_true rfl) (by omega) (by omega) rfl (Nat.le_of_ble_eq_true rfl) rfl (kV fun h1 n1 e1 => ?_) kN
  obtain ⟨m1, t1, rfl⟩ := e1
  refine r_aload0 dX3_remembers_4 ?_
  refine r_callV (M' := mX3_keeps) _ dX3_remembers_5 q3501 q3503 qs60 rfl (lw_all_tbl q3504) q138 (by exact pl_X3_keeps) gc_X3 m1.1 ((k_keeps hb m1 hc hf hc8 hf8)) (by omega) (Nat.le_of_ble_eq_true rfl) (by omega) (by omega) rfl (Nat.le_of_ble_eq_true rfl) rfl (kV fun h5 n5 e5 => ?_) kN
  obtain ⟨m2, t2, rfl⟩ := e5
  rw [up1_s, up1_s] at m2
  exact r_return dX3_remembers_8 rfl (⟨m2, t1.tr t2, rfl⟩)
theorem k_addDough {p q : Int32} (hb : k_b K ≤ a) (m : mS a V R A h) (w : wB u (R 1)) (hc : V 0 5 = nI c) (hf : V 0 6 = nI f) (hc8 : c ≤ 8) (hf8 : f < 8) : g_Met K mX3_addDough 5 0 0 [.ref a, .int p, .int q] h n (gI fun r h' n' => mC a V R A c f (eAd (R 1) p q) (R 1 0) (mkD (R 1) (tN p) (tN q)) (A 1) r h' ∧ mT a h h' ∧ n' = n) gN := by
  have b := w.b
  have z := eAd_b (ρ := R 1) (p := p) (q := q)
  refine g_Met.of (M := mX3_addDough) (L := [some (.ref a), some (.int p), some (.int q), none]) (by decide +kernel) (Nat.le_of_ble_eq_true rfl) rfl ?_
  refine r_aload0 dX3_addDough_0 ?_
  refine r_iconst (v := nI 0) dX3_addDough_1 (by decide) ?_
  refine p_X3_1_X3 dX3_addDough_2 (by omega) m.1 ?_
  refine m.goZ (fun h0 m0 t0 => ?_)
  refine r_aload0 dX3_addDough_5 ?_
  refine r_iload1 dX3_addDough_6 ?_
  refine r_iload2 dX3_addDough_7 ?_
  refine r_callV (M' := mX3_notDough) _ dX3_addDough_8 q3478 q3480 qs55 rfl (lw_all_tbl q3481) q138 (by exact pl_X3_notDough) gc_X3 m0.1 ((k_notDough m0 w)) (by omega) (Nat.le_of_ble_eq_true rfl) (by omega) (by omega) rfl (Nat.le_of_ble_eq_true rfl) rfl (kI fun r8 h8 n8 e8 => ?_) kN
  obtain ⟨rfl, rfl, rfl⟩ := e8
  refine r_istore3 dX3_addDough_11 ?_
  refine r_iload3 dX3_addDough_12 ?_
  refine r_if_eqN (tgt := 22) dX3_addDough_13 (by decide) (by omega) (fun c13 => ?_) (fun c13 => ?_)
  · obtain ⟨z1, z2, z3⟩ := eAd_0 c13
    obtain ⟨i, i1, i2, rfl, ti⟩ := bt_ex z1
    obtain ⟨j, j1, j2, rfl, tj⟩ := bt_ex z2
    refine r_aload0 dX3_addDough_22 ?_
    refine r_callV (M' := mX3_remembers) _ dX3_addDough_23 q3493 q3495 qs58 rfl (lw_all_tbl q3496) q138 (by exact pl_X3_remembers) gc_X3 m0.1 ((k_remembers hb m0 (by rw [vZ_n (by decide)]; exact hc) (by rw [vZ_n (by decide)]; exact hf) hc8 hf8)) (by omega) (Nat.le_of_ble_eq_true rfl) (by omega) (by omega) rfl (Nat.le_of_ble_eq_true rfl) rfl (kV fun h23 n23 e23 => ?_) kN
    obtain ⟨m1, t1, rfl⟩ := e23
    refine r_aload0 dX3_addDough_26 ?_
    refine r_iload1 dX3_addDough_27 ?_
    refine r_iload2 dX3_addDough_28 ?_
    refine r_callV (M' := mX3_makes) _ dX3_addDough_29 q3505 q3507 qs61 rfl (lw_all_tbl q3508) q138 (by exact pl_X3_makes) gc_X3 m1.1 ((k_makes hb m1 (by rw [rR_1]; exact w) (by rw [rR_1]; omega) (by omega) (by omega) (by omega))) (by omega) (Nat.le_of_ble_eq_true rfl) (by omega) (by omega) rfl (Nat.le_of_ble_eq_true rfl) rfl (kI fun r29 h29 n29 e29 => ?_) kN
    obtain ⟨rfl, m2, t2, rfl⟩ := e29
    rw [rR_1] at m2 ⊢
    exact r_ireturn dX3_addDough_32 rfl rfl (⟨mC.yes c13 rfl (m2.to rfl (by rw [ti, tj]) (by rw [← rR_1 (R := A) (c := c) (f := f), up1_self])), (t0.tr t1).tr t2, rfl⟩)
  · refine r_aload0 dX3_addDough_16 ?_
    refine r_iload3 dX3_addDough_17 ?_
    refine r_callV (M' := mX3_fails) _ dX3_addDough_18 q3489 q3491 qs57 rfl (lw_all_tbl q3492) q138 (by exact pl_X3_fails) gc_X3 m0.1 ((k_fails hb m0)) (by omega) (Nat.le_of_ble_eq_true rfl) (by omega) (by omega) rfl (Nat.le_of_ble_eq_true rfl) rfl (kI fun r18 h18 n18 e18 => ?_) kN
    obtain ⟨rfl, m1, t1, rfl⟩ := e18
    exact r_ireturn dX3_addDough_21 rfl rfl (⟨mC.no c13 m1, t0.tr t1, rfl⟩)
theorem k_mix {p q : Int32} (hb : k_b K ≤ a) (m : mS a V R A h) (w : wB u (R 1)) (hc : V 0 5 = nI c) (hf : V 0 6 = nI f) (hc8 : c ≤ 8) (hf8 : f < 8) : g_Met K mX3_mix 6 0 0 [.ref a, .int p, .int q] h n (gI fun r h' n' => mC a V R A c f (eMx (R 1) p q) (sAb (R 1) (tN p) (tN q) / Nat.gcd (sAb (R 1) (tN p) (tN q)) (sBe (R 1) (tN p) (tN q))) (mxD (R 1) (tN p) (tN q)) (A 1) r h' ∧ mT a h h' ∧ n' = n) gN := by
  have b := w.b
  have z := eMx_b (ρ := R 1) (p := p) (q := q)
  refine g_Met.of (M := mX3_mix) (L := [some (.ref a), some (.int p), some (.int q), none]) (by decide +kernel) (Nat.le_of_ble_eq_true rfl) rfl ?_
  refine r_aload0 dX3_mix_0 ?_
  refine r_iconst (v := nI 0) dX3_mix_1 (by decide) ?_
  refine p_X3_1_X3 dX3_mix_2 (by omega) m.1 ?_
  refine m.goZ (fun h0 m0 t0 => ?_)
  refine r_aload0 dX3_mix_5 ?_
  refine r_iload1 dX3_mix_6 ?_
  refine r_iload2 dX3_mix_7 ?_
  refine r_callV (M' := mX3_notMix) _ dX3_mix_8 q3520 q3522 qs63 rfl (lw_all_tbl q3523) q138 (by exact pl_X3_notMix) gc_X3 m0.1 ((k_notMix m0 w)) (by omega) (Nat.le_of_ble_eq_true rfl) (by omega) (by omega) rfl (Nat.le_of_ble_eq_true rfl) rfl (kI fun r8 h8 n8 e8 => ?_) kN
  obtain ⟨rfl, rfl, rfl⟩ := e8
  refine r_istore3 dX3_mix_11 ?_
  refine r_iload3 dX3_mix_12 ?_
  refine r_if_eqN (tgt := 22) dX3_mix_13 (by decide) (by omega) (fun c13 => ?_) (fun c13 => ?_)
  · obtain ⟨z1, z2, z3, -⟩ := eMx_0 c13
    obtain ⟨i, hi, rfl, ti⟩ := ix_ex z1
    obtain ⟨j, hj, rfl, tj⟩ := ix_ex z2
    refine r_aload0 dX3_mix_22 ?_
    refine r_callV (M' := mX3_remembers) _ dX3_mix_23 q3493 q3495 qs58 rfl (lw_all_tbl q3496) q138 (by exact pl_X3_remembers) gc_X3 m0.1 ((k_remembers hb m0 (by rw [vZ_n (by decide)]; exact hc) (by rw [vZ_n (by decide)]; exact hf) hc8 hf8)) (by omega) (Nat.le_of_ble_eq_true rfl) (by omega) (by omega) rfl (Nat.le_of_ble_eq_true rfl) rfl (kV fun h23 n23 e23 => ?_) kN
    obtain ⟨m1, t1, rfl⟩ := e23
    refine r_aload0 dX3_mix_26 ?_
    refine r_iload1 dX3_mix_27 ?_
    refine r_iload2 dX3_mix_28 ?_
    refine r_callV (M' := mX3_mixes) _ dX3_mix_29 q3540 q3542 qs68 rfl (lw_all_tbl q3543) q138 (by exact pl_X3_mixes) gc_X3 m1.1 ((k_mixes hb m1 (by rw [rR_1]; exact w) (by rw [rR_1]; exact hi) (by rw [rR_1]; exact hj) (fun y => z3 (by rw [y])))) (by omega) (Nat.le_of_ble_eq_true rfl) (by omega) (by omega) rfl (Nat.le_of_ble_eq_true rfl) rfl (kI fun r29 h29 n29 e29 => ?_) kN
    obtain ⟨rfl, m2, t2, rfl⟩ := e29
    rw [rR_1] at m2 ⊢
    exact r_ireturn dX3_mix_32 rfl rfl (⟨mC.yes c13 (by rw [ti, tj]) (m2.to rfl (by rw [ti, tj]) (by rw [← rR_1 (R := A) (c := c) (f := f), up1_self])), (t0.tr t1).tr t2, rfl⟩)
  · refine r_aload0 dX3_mix_16 ?_
    refine r_iload3 dX3_mix_17 ?_
    refine r_callV (M' := mX3_fails) _ dX3_mix_18 q3489 q3491 qs57 rfl (lw_all_tbl q3492) q138 (by exact pl_X3_fails) gc_X3 m0.1 ((k_fails hb m0)) (by omega) (Nat.le_of_ble_eq_true rfl) (by omega) (by omega) rfl (Nat.le_of_ble_eq_true rfl) rfl (kI fun r18 h18 n18 e18 => ?_) kN
    obtain ⟨rfl, m1, t1, rfl⟩ := e18
    exact r_ireturn dX3_mix_21 rfl rfl (⟨mC.no c13 m1, t0.tr t1, rfl⟩)
theorem k_addBowl {p : Int32} (hb : k_b K ≤ a) (m : mS a V R A h) (w : wB u (R 1)) (hc : V 0 5 = nI c) (hf : V 0 6 = nI f) (hc8 : c ≤ 8) (hf8 : f < 8) : g_Met K mX3_addBowl 5 0 0 [.ref a, .int p] h n (gI fun r h' n' => mC a V R A c f (eBo (R 1) p) (R 1 1) (mkB (R 1) (tN p)) (A 1) r h' ∧ mT a h h' ∧ n' = n) gN := by
  have b := w.b
  have z := eBo_b (ρ := R 1) (p := p)
  refine g_Met.of (M := mX3_addBowl) (L := [some (.ref a), some (.int p), none]) (by decide +kernel) (Nat.le_of_ble_eq_true rfl) rfl ?_
  refine r_aload0 dX3_addBowl_0 ?_
  refine r_iconst (v := nI 0) dX3_addBowl_1 (by decide) ?_
  refine p_X3_1_X3 dX3_addBowl_2 (by omega) m.1 ?_
  refine m.goZ (fun h0 m0 t0 => ?_)
  refine r_aload0 dX3_addBowl_5 ?_
  refine r_iload1 dX3_addBowl_6 ?_
  refine r_callV (M' := mX3_notBowl) _ dX3_addBowl_7 q3548 q3550 qs69 rfl (lw_all_tbl q3551) q138 (by exact pl_X3_notBowl) gc_X3 m0.1 ((k_notBowl m0 w)) (by omega) (Nat.le_of_ble_eq_true rfl) (by omega) (by omega) rfl (Nat.le_of_ble_eq_true rfl) rfl (kI fun r7 h7 n7 e7 => ?_) kN
  obtain ⟨rfl, rfl, rfl⟩ := e7
  refine r_istore2 dX3_addBowl_10 ?_
  refine r_iload2 dX3_addBowl_11 ?_
  refine r_if_eqN (tgt := 21) dX3_addBowl_12 (by decide) (by omega) (fun c12 => ?_) (fun c12 => ?_)
  · obtain ⟨z1, z2⟩ := eBo_0 c12
    obtain ⟨i, i1, i2, rfl, ti⟩ := bt_ex z1
    refine r_aload0 dX3_addBowl_21 ?_
    refine r_callV (M' := mX3_remembers) _ dX3_addBowl_22 q3493 q3495 qs58 rfl (lw_all_tbl q3496) q138 (by exact pl_X3_remembers) gc_X3 m0.1 ((k_remembers hb m0 (by rw [vZ_n (by decide)]; exact hc) (by rw [vZ_n (by decide)]; exact hf) hc8 hf8)) (by omega) (Nat.le_of_ble_eq_true rfl) (by omega) (by omega) rfl (Nat.le_of_ble_eq_true rfl) rfl (kV fun h22 n22 e22 => ?_) kN
    obtain ⟨m1, t1, rfl⟩ := e22
    refine r_aload0 dX3_addBowl_25 ?_
    refine r_iload1 dX3_addBowl_26 ?_
    refine r_callV (M' := mX3_buys) _ dX3_addBowl_27 q3552 q3554 qs70 rfl (lw_all_tbl q3555) q138 (by exact pl_X3_buys) gc_X3 m1.1 ((k_buys hb m1 (by rw [rR_1]; exact w) (by rw [rR_1]; omega) (by omega))) (by omega) (Nat.le_of_ble_eq_true rfl) (by omega) (by omega) rfl (Nat.le_of_ble_eq_true rfl) rfl (kI fun r27 h27 n27 e27 => ?_) kN
    obtain ⟨rfl, m2, t2, rfl⟩ := e27
    rw [rR_1] at m2 ⊢
    exact r_ireturn dX3_addBowl_30 rfl rfl (⟨mC.yes c12 rfl (m2.to rfl (by rw [ti]) (by rw [← rR_1 (R := A) (c := c) (f := f), up1_self])), (t0.tr t1).tr t2, rfl⟩)
  · refine r_aload0 dX3_addBowl_15 ?_
    refine r_iload2 dX3_addBowl_16 ?_
    refine r_callV (M' := mX3_fails) _ dX3_addBowl_17 q3489 q3491 qs57 rfl (lw_all_tbl q3492) q138 (by exact pl_X3_fails) gc_X3 m0.1 ((k_fails hb m0)) (by omega) (Nat.le_of_ble_eq_true rfl) (by omega) (by omega) rfl (Nat.le_of_ble_eq_true rfl) rfl (kI fun r17 h17 n17 e17 => ?_) kN
    obtain ⟨rfl, m1, t1, rfl⟩ := e17
    exact r_ireturn dX3_addBowl_20 rfl rfl (⟨mC.no c12 m1, t0.tr t1, rfl⟩)
theorem k_addLoaf {p q : Int32} (hb : k_b K ≤ a) (m : mS a V R A h) (w : wB u (R 1)) (hc : V 0 5 = nI c) (hf : V 0 6 = nI f) (hc8 : c ≤ 8) (hf8 : f < 8) : g_Met K mX3_addLoaf 5 0 0 [.ref a, .int p, .int q] h n (gI fun r h' n' => mC a V R A c f (eLo (R 1) p q) (R 1 2) (mkL (R 1) (tN p) (tN q)) (A 1) r h' ∧ mT a h h' ∧ n' = n) gN := by
  have b := w.b
  have z := eLo_b (ρ := R 1) (p := p) (q := q)
  refine g_Met.of (M := mX3_addLoaf) (L := [some (.ref a), some (.int p), some (.int q), none]) (by decide +kernel) (Nat.le_of_ble_eq_true rfl) rfl ?_
  refine r_aload0 dX3_addLoaf_0 ?_
  refine r_iconst (v := nI 0) dX3_addLoaf_1 (by decide) ?_
  refine p_X3_1_X3 dX3_addLoaf_2 (by omega) m.1 ?_
  refine m.goZ (fun h0 m0 t0 => ?_)
  refine r_aload0 dX3_addLoaf_5 ?_
  refine r_iload1 dX3_addLoaf_6 ?_
  refine r_iload2 dX3_addLoaf_7 ?_
  refine r_callV (M' := mX3_notLoaf) _ dX3_addLoaf_8 q3560 q3562 qs71 rfl (lw_all_tbl q3563) q138 (by exact pl_X3_notLoaf) gc_X3 m0.1 ((k_notLoaf m0 w)) (by omega) (Nat.le_of_ble_eq_true rfl) (by omega) (by omega) rfl (Nat.le_of_ble_eq_true rfl) rfl (kI fun r8 h8 n8 e8 => ?_) kN
  obtain ⟨rfl, rfl, rfl⟩ := e8
  refine r_istore3 dX3_addLoaf_11 ?_
  refine r_iload3 dX3_addLoaf_12 ?_
  refine r_if_eqN (tgt := 22) dX3_addLoaf_13 (by decide) (by omega) (fun c13 => ?_) (fun c13 => ?_)
  · obtain ⟨z1, z2, z3⟩ := eLo_0 c13
    obtain ⟨i, i1, i2, rfl, ti⟩ := bt_ex z1
    obtain ⟨j, j1, j2, rfl, tj⟩ := bt_ex z2
    refine r_aload0 dX3_addLoaf_22 ?_
    refine r_callV (M' := mX3_remembers) _ dX3_addLoaf_23 q3493 q3495 qs58 rfl (lw_all_tbl q3496) q138 (by exact pl_X3_remembers) gc_X3 m0.1 ((k_remembers hb m0 (by rw [vZ_n (by decide)]; exact hc) (by rw [vZ_n (by decide)]; exact hf) hc8 hf8)) (by omega) (Nat.le_of_ble_eq_true rfl) (by omega) (by omega) rfl (Nat.le_of_ble_eq_true rfl) rfl (kV fun h23 n23 e23 => ?_) kN
    obtain ⟨m1, t1, rfl⟩ := e23
    refine r_aload0 dX3_addLoaf_26 ?_
    refine r_iload1 dX3_addLoaf_27 ?_
    refine r_iload2 dX3_addLoaf_28 ?_
    refine r_callV (M' := mX3_forms) _ dX3_addLoaf_29 q3564 q3566 qs72 rfl (lw_all_tbl q3567) q138 (by exact pl_X3_forms) gc_X3 m1.1 ((k_forms hb m1 (by rw [rR_1]; exact w) (by rw [rR_1]; omega) (by omega) (by omega))) (by omega) (Nat.le_of_ble_eq_true rfl) (by omega) (by omega) rfl (Nat.le_of_ble_eq_true rfl) rfl (kI fun r29 h29 n29 e29 => ?_) kN
    obtain ⟨rfl, m2, t2, rfl⟩ := e29
    rw [rR_1] at m2 ⊢
    exact r_ireturn dX3_addLoaf_32 rfl rfl (⟨mC.yes c13 rfl (m2.to rfl (by rw [ti, tj]) (by rw [← rR_1 (R := A) (c := c) (f := f), up1_self])), (t0.tr t1).tr t2, rfl⟩)
  · refine r_aload0 dX3_addLoaf_16 ?_
    refine r_iload3 dX3_addLoaf_17 ?_
    refine r_callV (M' := mX3_fails) _ dX3_addLoaf_18 q3489 q3491 qs57 rfl (lw_all_tbl q3492) q138 (by exact pl_X3_fails) gc_X3 m0.1 ((k_fails hb m0)) (by omega) (Nat.le_of_ble_eq_true rfl) (by omega) (by omega) rfl (Nat.le_of_ble_eq_true rfl) rfl (kI fun r18 h18 n18 e18 => ?_) kN
    obtain ⟨rfl, m1, t1, rfl⟩ := e18
    exact r_ireturn dX3_addLoaf_21 rfl rfl (⟨mC.no c13 m1, t0.tr t1, rfl⟩)
theorem k_sellLoaf {p : Int32} (hb : k_b K ≤ a) (m : mS a V R A h) (w : wB u (R 1)) (hc : V 0 5 = nI c) (hf : V 0 6 = nI f) (hc8 : c ≤ 8) (hf8 : f < 8) : g_Met K mX3_sellLoaf 5 0 0 [.ref a, .int p] h n (gI fun r h' n' => mC a V R A c f (if ix p (R 1 2) then 0 else 1) (R 1 (34 + 3 * tN p)) (slL (R 1) (tN p)) (fup (A 1) 8 (A 1 8 + lN (R 1 (34 + 3 * tN p)))) r h' ∧ mT a h h' ∧ n' = n) gN := by
  have b := w.b
  refine g_Met.of (M := mX3_sellLoaf) (L := [some (.ref a), some (.int p)]) (by decide +kernel) (Nat.le_of_ble_eq_true rfl) rfl ?_
  refine r_aload0 dX3_sellLoaf_0 ?_
  refine r_iconst (v := nI 0) dX3_sellLoaf_1 (by decide) ?_
  refine p_X3_1_X3 dX3_sellLoaf_2 (by omega) m.1 ?_
  refine m.goZ (fun h0 m0 t0 => ?_)
  refine r_aload0 dX3_sellLoaf_5 ?_
  refine r_iload1 dX3_sellLoaf_6 ?_
  refine r_callV (M' := mX3_isLoaf) _ dX3_sellLoaf_7 q3572 q3574 qs73 rfl (lw_all_tbl q3575) q138 (by exact pl_X3_isLoaf) gc_X3 m0.1 ((k_isLoaf m0 w)) (by omega) (Nat.le_of_ble_eq_true rfl) (by omega) (by omega) rfl (Nat.le_of_ble_eq_true rfl) rfl (kI fun r7 h7 n7 e7 => ?_) kN
  obtain ⟨rfl, rfl, rfl⟩ := e7
  refine r_if_neB (tgt := 19) dX3_sellLoaf_10 (by decide) (fun c10 => ?_) (fun c10 => ?_)
  · obtain ⟨i, hi, rfl, ti⟩ := ix_ex c10
    refine r_aload0 dX3_sellLoaf_19 ?_
    refine r_callV (M' := mX3_remembers) _ dX3_sellLoaf_20 q3493 q3495 qs58 rfl (lw_all_tbl q3496) q138 (by exact pl_X3_remembers) gc_X3 m0.1 ((k_remembers hb m0 (by rw [vZ_n (by decide)]; exact hc) (by rw [vZ_n (by decide)]; exact hf) hc8 hf8)) (by omega) (Nat.le_of_ble_eq_true rfl) (by omega) (by omega) rfl (Nat.le_of_ble_eq_true rfl) rfl (kV fun h20 n20 e20 => ?_) kN
    obtain ⟨m1, t1, rfl⟩ := e20
    refine r_aload0 dX3_sellLoaf_23 ?_
    refine r_iload1 dX3_sellLoaf_24 ?_
    refine r_callV (M' := mX3_sells) _ dX3_sellLoaf_25 q3576 q3578 qs74 rfl (lw_all_tbl q3579) q138 (by exact pl_X3_sells) gc_X3 m1.1 ((k_sells hb m1 (by rw [rR_1]; exact w) (by rw [rR_1]; exact hi))) (by omega) (Nat.le_of_ble_eq_true rfl) (by omega) (by omega) rfl (Nat.le_of_ble_eq_true rfl) rfl (kI fun r25 h25 n25 e25 => ?_) kN
    obtain ⟨rfl, m2, t2, rfl⟩ := e25
    rw [rR_1] at m2 ⊢
    rw [rR_1] at m2
    exact r_ireturn dX3_sellLoaf_28 rfl rfl (⟨by rw [if_pos c10, ti]; exact mC.yes rfl rfl m2, (t0.tr t1).tr t2, rfl⟩)
  · refine r_aload0 dX3_sellLoaf_13 ?_
    refine r_iconst (v := nI 1) dX3_sellLoaf_14 (by decide) ?_
    refine r_callV (M' := mX3_fails) _ dX3_sellLoaf_15 q3489 q3491 qs57 rfl (lw_all_tbl q3492) q138 (by exact pl_X3_fails) gc_X3 m0.1 ((k_fails hb m0)) (by omega) (Nat.le_of_ble_eq_true rfl) (by omega) (by omega) rfl (Nat.le_of_ble_eq_true rfl) rfl (kI fun r15 h15 n15 e15 => ?_) kN
    obtain ⟨rfl, m1, t1, rfl⟩ := e15
    exact r_ireturn dX3_sellLoaf_18 rfl rfl (⟨by rw [if_neg c10]; exact mC.no (by decide) m1, t0.tr t1, rfl⟩)
theorem k_setScale {p : Int32} (hb : k_b K ≤ a) (m : mS a V R A h) (w : wB u (R 1)) (hc : V 0 5 = nI c) (hf : V 0 6 = nI f) (hc8 : c ≤ 8) (hf8 : f < 8) : g_Met K mX3_setScale 5 0 0 [.ref a, .int p] h n (gI fun r h' n' => mC a V R A c f (eSc (R 1) p) (R 1 3) (fup (R 1) 3 (tN p)) (A 1) r h' ∧ mT a h h' ∧ n' = n) gN := by
  have b := w.b
  have z := eSc_b (ρ := R 1) (p := p)
  refine g_Met.of (M := mX3_setScale) (L := [some (.ref a), some (.int p), none]) (by decide +kernel) (Nat.le_of_ble_eq_true rfl) rfl ?_
  refine r_aload0 dX3_setScale_0 ?_
  refine r_iconst (v := nI 0) dX3_setScale_1 (by decide) ?_
  refine p_X3_1_X3 dX3_setScale_2 (by omega) m.1 ?_
  refine m.goZ (fun h0 m0 t0 => ?_)
  refine r_aload0 dX3_setScale_5 ?_
  refine r_iload1 dX3_setScale_6 ?_
  refine r_callV (M' := mX3_notScale) _ dX3_setScale_7 q3588 q3590 qs76 rfl (lw_all_tbl q3591) q138 (by exact pl_X3_notScale) gc_X3 m0.1 ((k_notScale m0 w)) (by omega) (Nat.le_of_ble_eq_true rfl) (by omega) (by omega) rfl (Nat.le_of_ble_eq_true rfl) rfl (kI fun r7 h7 n7 e7 => ?_) kN
  obtain ⟨rfl, rfl, rfl⟩ := e7
  refine r_istore2 dX3_setScale_10 ?_
  refine r_iload2 dX3_setScale_11 ?_
  refine r_if_eqN (tgt := 21) dX3_setScale_12 (by decide) (by omega) (fun c12 => ?_) (fun c12 => ?_)
  · obtain ⟨z1, z2⟩ := eSc_0 c12
    obtain ⟨i, i1, i2, rfl, ti⟩ := bt_ex z1
    refine r_aload0 dX3_setScale_21 ?_
    refine r_callV (M' := mX3_remembers) _ dX3_setScale_22 q3493 q3495 qs58 rfl (lw_all_tbl q3496) q138 (by exact pl_X3_remembers) gc_X3 m0.1 ((k_remembers hb m0 (by rw [vZ_n (by decide)]; exact hc) (by rw [vZ_n (by decide)]; exact hf) hc8 hf8)) (by omega) (Nat.le_of_ble_eq_true rfl) (by omega) (by omega) rfl (Nat.le_of_ble_eq_true rfl) rfl (kV fun h22 n22 e22 => ?_) kN
    obtain ⟨m1, t1, rfl⟩ := e22
    refine r_aload0 dX3_setScale_25 ?_
    refine r_iconst (v := nI 3) dX3_setScale_26 (by decide) ?_
    refine r_iload1 dX3_setScale_27 ?_
    refine r_callV (M' := mX3_takes) _ dX3_setScale_28 q3604 q3606 qs80 rfl (lw_all_tbl q3607) q138 (by exact pl_X3_takes) gc_X3 m1.1 ((k_takes hb m1 (by decide) (by decide) (by omega))) (by omega) (Nat.le_of_ble_eq_true rfl) (by omega) (by omega) rfl (Nat.le_of_ble_eq_true rfl) rfl (kI fun r28 h28 n28 e28 => ?_) kN
    obtain ⟨rfl, m2, t2, rfl⟩ := e28
    rw [rR_1] at m2 ⊢
    exact r_ireturn dX3_setScale_31 rfl rfl (⟨mC.yes c12 rfl (m2.to rfl (by rw [ti]) (by rw [← rR_1 (R := A) (c := c) (f := f), up1_self])), (t0.tr t1).tr t2, rfl⟩)
  · refine r_aload0 dX3_setScale_15 ?_
    refine r_iload2 dX3_setScale_16 ?_
    refine r_callV (M' := mX3_fails) _ dX3_setScale_17 q3489 q3491 qs57 rfl (lw_all_tbl q3492) q138 (by exact pl_X3_fails) gc_X3 m0.1 ((k_fails hb m0)) (by omega) (Nat.le_of_ble_eq_true rfl) (by omega) (by omega) rfl (Nat.le_of_ble_eq_true rfl) rfl (kI fun r17 h17 n17 e17 => ?_) kN
    obtain ⟨rfl, m1, t1, rfl⟩ := e17
    exact r_ireturn dX3_setScale_20 rfl rfl (⟨mC.no c12 m1, t0.tr t1, rfl⟩)
theorem k_pour {p q : Int32} (hb : k_b K ≤ a) (m : mS a V R A h) (w : wB u (R 1)) (hc : V 0 5 = nI c) (hf : V 0 6 = nI f) (hc8 : c ≤ 8) (hf8 : f < 8) : g_Met K mX3_pour 6 0 0 [.ref a, .int p, .int q] h n (gI fun r h' n' => mC a V R A c f (ePo (R 1) p q) (poD (R 1) (tN p) (tN q)).2 (poD (R 1) (tN p) (tN q)).1 (fup (fup (fup (A 1) 6 (A 1 6 + lN (crm (R 1) (tN p)))) 9 (A 1 9 + erp (R 1) (tN p))) 7 (A 1 7 + lN (poD (R 1) (tN p) (tN q)).2)) r h' ∧ mT a h h' ∧ n' = n) gN := by
  have b := w.b
  have z := ePo_b (ρ := R 1) (p := p) (q := q)
  refine g_Met.of (M := mX3_pour) (L := [some (.ref a), some (.int p), some (.int q)]) (by decide +kernel) (Nat.le_of_ble_eq_true rfl) rfl ?_
  refine r_aload0 dX3_pour_0 ?_
  refine r_iconst (v := nI 0) dX3_pour_1 (by decide) ?_
  refine p_X3_1_X3 dX3_pour_2 (by omega) m.1 ?_
  refine m.goZ (fun h0 m0 t0 => ?_)
  refine r_aload0 dX3_pour_5 ?_
  refine r_iload1 dX3_pour_6 ?_
  refine r_iload2 dX3_pour_7 ?_
  refine r_callV (M' := mX3_notPour) _ dX3_pour_8 q3619 q3621 qs81 rfl (lw_all_tbl q3622) q138 (by exact pl_X3_notPour) gc_X3 m0.1 ((k_notPour m0 w)) (by omega) (Nat.le_of_ble_eq_true rfl) (by omega) (by omega) rfl (Nat.le_of_ble_eq_true rfl) rfl (kI fun r8 h8 n8 e8 => ?_) kN
  obtain ⟨rfl, rfl, rfl⟩ := e8
  refine r_if_eqN (tgt := 20) dX3_pour_11 (by decide) (by omega) (fun c11 => ?_) (fun c11 => ?_)
  · obtain ⟨z1, z2⟩ := ePo_0 c11
    obtain ⟨i, hi, rfl, ti⟩ := ix_ex z1
    obtain ⟨j, hj, rfl, tj⟩ := ix_ex z2
    refine r_aload0 dX3_pour_20 ?_
    refine r_callV (M' := mX3_remembers) _ dX3_pour_21 q3493 q3495 qs58 rfl (lw_all_tbl q3496) q138 (by exact pl_X3_remembers) gc_X3 m0.1 ((k_remembers hb m0 (by rw [vZ_n (by decide)]; exact hc) (by rw [vZ_n (by decide)]; exact hf) hc8 hf8)) (by omega) (Nat.le_of_ble_eq_true rfl) (by omega) (by omega) rfl (Nat.le_of_ble_eq_true rfl) rfl (kV fun h21 n21 e21 => ?_) kN
    obtain ⟨m1, t1, rfl⟩ := e21
    refine r_aload0 dX3_pour_24 ?_
    refine r_iload1 dX3_pour_25 ?_
    refine r_iload2 dX3_pour_26 ?_
    refine r_callV (M' := mX3_pours) _ dX3_pour_27 q3627 q3629 qs83 rfl (lw_all_tbl q3630) q138 (by exact pl_X3_pours) gc_X3 m1.1 ((k_pours hb m1 (by rw [rR_1]; exact w) (by rw [rR_1]; exact hi) (by rw [rR_1]; exact hj))) (by omega) (Nat.le_of_ble_eq_true rfl) (by omega) (by omega) rfl (Nat.le_of_ble_eq_true rfl) rfl (kI fun r27 h27 n27 e27 => ?_) kN
    obtain ⟨rfl, m2, t2, rfl⟩ := e27
    rw [rR_1] at m2 ⊢
    rw [rR_1] at m2
    exact r_ireturn dX3_pour_30 rfl rfl (⟨mC.yes c11 (by rw [ti, tj]) (m2.to rfl (by rw [ti, tj]) (by rw [ti, tj])), (t0.tr t1).tr t2, rfl⟩)
  · refine r_aload0 dX3_pour_14 ?_
    refine r_iconst (v := nI 1) dX3_pour_15 (by decide) ?_
    refine r_callV (M' := mX3_fails) _ dX3_pour_16 q3489 q3491 qs57 rfl (lw_all_tbl q3492) q138 (by exact pl_X3_fails) gc_X3 m0.1 ((k_fails hb m0)) (by omega) (Nat.le_of_ble_eq_true rfl) (by omega) (by omega) rfl (Nat.le_of_ble_eq_true rfl) rfl (kI fun r16 h16 n16 e16 => ?_) kN
    obtain ⟨rfl, m1, t1, rfl⟩ := e16
    exact r_ireturn dX3_pour_19 rfl rfl (⟨by rw [show ePo (R 1) p q = 1 by omega]; exact mC.no (by decide) m1, t0.tr t1, rfl⟩)
theorem k_empty {p : Int32} (hb : k_b K ≤ a) (m : mS a V R A h) (w : wB u (R 1)) (hc : V 0 5 = nI c) (hf : V 0 6 = nI f) (hc8 : c ≤ 8) (hf8 : f < 8) : g_Met K mX3_empty 5 0 0 [.ref a, .int p] h n (gI fun r h' n' => mC a V R A c f (if ix p (R 1 1) then 0 else 1) (R 1 (23 + 2 * tN p)) (fup (R 1) (23 + 2 * tN p) 0) (fup (A 1) 8 (A 1 8 + lN (R 1 (23 + 2 * tN p)))) r h' ∧ mT a h h' ∧ n' = n) gN := by
  have b := w.b
  refine g_Met.of (M := mX3_empty) (L := [some (.ref a), some (.int p)]) (by decide +kernel) (Nat.le_of_ble_eq_true rfl) rfl ?_
  refine r_aload0 dX3_empty_0 ?_
  refine r_iconst (v := nI 0) dX3_empty_1 (by decide) ?_
  refine p_X3_1_X3 dX3_empty_2 (by omega) m.1 ?_
  refine m.goZ (fun h0 m0 t0 => ?_)
  refine r_aload0 dX3_empty_5 ?_
  refine r_iload1 dX3_empty_6 ?_
  refine r_callV (M' := mX3_isBowl) _ dX3_empty_7 q3623 q3625 qs82 rfl (lw_all_tbl q3626) q138 (by exact pl_X3_isBowl) gc_X3 m0.1 ((k_isBowl m0 w)) (by omega) (Nat.le_of_ble_eq_true rfl) (by omega) (by omega) rfl (Nat.le_of_ble_eq_true rfl) rfl (kI fun r7 h7 n7 e7 => ?_) kN
  obtain ⟨rfl, rfl, rfl⟩ := e7
  refine r_if_neB (tgt := 19) dX3_empty_10 (by decide) (fun c10 => ?_) (fun c10 => ?_)
  · obtain ⟨i, hi, rfl, ti⟩ := ix_ex c10
    refine r_aload0 dX3_empty_19 ?_
    refine r_callV (M' := mX3_remembers) _ dX3_empty_20 q3493 q3495 qs58 rfl (lw_all_tbl q3496) q138 (by exact pl_X3_remembers) gc_X3 m0.1 ((k_remembers hb m0 (by rw [vZ_n (by decide)]; exact hc) (by rw [vZ_n (by decide)]; exact hf) hc8 hf8)) (by omega) (Nat.le_of_ble_eq_true rfl) (by omega) (by omega) rfl (Nat.le_of_ble_eq_true rfl) rfl (kV fun h20 n20 e20 => ?_) kN
    obtain ⟨m1, t1, rfl⟩ := e20
    refine r_aload0 dX3_empty_23 ?_
    refine r_iload1 dX3_empty_24 ?_
    refine r_callV (M' := mX3_empties) _ dX3_empty_25 q3648 q3650 qs87 rfl (lw_all_tbl q3651) q138 (by exact pl_X3_empties) gc_X3 m1.1 ((k_empties hb m1 (by rw [rR_1]; exact w) (by rw [rR_1]; exact hi))) (by omega) (Nat.le_of_ble_eq_true rfl) (by omega) (by omega) rfl (Nat.le_of_ble_eq_true rfl) rfl (kI fun r25 h25 n25 e25 => ?_) kN
    obtain ⟨rfl, m2, t2, rfl⟩ := e25
    rw [rR_1] at m2 ⊢
    rw [rR_1] at m2
    exact r_ireturn dX3_empty_28 rfl rfl (⟨by rw [if_pos c10, ti]; exact mC.yes rfl rfl m2, (t0.tr t1).tr t2, rfl⟩)
  · refine r_aload0 dX3_empty_13 ?_
    refine r_iconst (v := nI 1) dX3_empty_14 (by decide) ?_
    refine r_callV (M' := mX3_fails) _ dX3_empty_15 q3489 q3491 qs57 rfl (lw_all_tbl q3492) q138 (by exact pl_X3_fails) gc_X3 m0.1 ((k_fails hb m0)) (by omega) (Nat.le_of_ble_eq_true rfl) (by omega) (by omega) rfl (Nat.le_of_ble_eq_true rfl) rfl (kI fun r15 h15 n15 e15 => ?_) kN
    obtain ⟨rfl, m1, t1, rfl⟩ := e15
    exact r_ireturn dX3_empty_18 rfl rfl (⟨by rw [if_neg c10]; exact mC.no (by decide) m1, t0.tr t1, rfl⟩)
theorem k_bake {p : Int32} (hb : k_b K ≤ a) (m : mS a V R A h) (w : wB u (R 1)) (hc : V 0 5 = nI c) (hf : V 0 6 = nI f) (hc8 : c ≤ 8) (hf8 : f < 8) (hu : u < 20000) : g_Met K mX3_bake 7 0 0 [.ref a, .int p] h n (gI fun r h' n' => mC a V R A c f (eBa (R 1) p) (R 1 (23 + 2 * tN p)) (bkD (R 1) (tN p)) (A 1) r h' ∧ mT a h h' ∧ n' = n) gN := by
  have b := w.b
  have z := eBa_b (ρ := R 1) (p := p)
  refine g_Met.of (M := mX3_bake) (L := [some (.ref a), some (.int p), none]) (by decide +kernel) (Nat.le_of_ble_eq_true rfl) rfl ?_
  refine r_aload0 dX3_bake_0 ?_
  refine r_iconst (v := nI 0) dX3_bake_1 (by decide) ?_
  refine p_X3_1_X3 dX3_bake_2 (by omega) m.1 ?_
  refine m.goZ (fun h0 m0 t0 => ?_)
  refine r_aload0 dX3_bake_5 ?_
  refine r_iload1 dX3_bake_6 ?_
  refine r_callV (M' := mX3_notBake) _ dX3_bake_7 q3656 q3658 qs88 rfl (lw_all_tbl q3659) q138 (by exact pl_X3_notBake) gc_X3 m0.1 ((k_notBake m0 w)) (by omega) (Nat.le_of_ble_eq_true rfl) (by omega) (by omega) rfl (Nat.le_of_ble_eq_true rfl) rfl (kI fun r7 h7 n7 e7 => ?_) kN
  obtain ⟨rfl, rfl, rfl⟩ := e7
  refine r_istore2 dX3_bake_10 ?_
  refine r_iload2 dX3_bake_11 ?_
  refine r_if_eqN (tgt := 21) dX3_bake_12 (by decide) (by omega) (fun c12 => ?_) (fun c12 => ?_)
  · obtain ⟨z1, z2, z3⟩ := eBa_0 c12
    obtain ⟨i, hi, rfl, ti⟩ := ix_ex z1
    refine r_aload0 dX3_bake_21 ?_
    refine r_callV (M' := mX3_remembers) _ dX3_bake_22 q3493 q3495 qs58 rfl (lw_all_tbl q3496) q138 (by exact pl_X3_remembers) gc_X3 m0.1 ((k_remembers hb m0 (by rw [vZ_n (by decide)]; exact hc) (by rw [vZ_n (by decide)]; exact hf) hc8 hf8)) (by omega) (Nat.le_of_ble_eq_true rfl) (by omega) (by omega) rfl (Nat.le_of_ble_eq_true rfl) rfl (kV fun h22 n22 e22 => ?_) kN
    obtain ⟨m1, t1, rfl⟩ := e22
    refine r_aload0 dX3_bake_25 ?_
    refine r_iload1 dX3_bake_26 ?_
    refine r_callV (M' := mX3_bakes) _ dX3_bake_27 q3660 q3662 qs89 rfl (lw_all_tbl q3663) q138 (by exact pl_X3_bakes) gc_X3 m1.1 ((k_bakes hb m1 (by rw [rR_1]; exact w) hu (by rw [rR_1]; exact hi))) (by omega) (Nat.le_of_ble_eq_true rfl) (by omega) (by omega) rfl (Nat.le_of_ble_eq_true rfl) rfl (kI fun r27 h27 n27 e27 => ?_) kN
    obtain ⟨rfl, m2, t2, rfl⟩ := e27
    rw [rR_1] at m2 ⊢
    exact r_ireturn dX3_bake_30 rfl rfl (⟨mC.yes c12 (by rw [ti]) (m2.to rfl (by rw [ti]) (by rw [← rR_1 (R := A) (c := c) (f := f), up1_self])), (t0.tr t1).tr t2, rfl⟩)
  · refine r_aload0 dX3_bake_15 ?_
    refine r_iload2 dX3_bake_16 ?_
    refine r_callV (M' := mX3_fails) _ dX3_bake_17 q3489 q3491 qs57 rfl (lw_all_tbl q3492) q138 (by exact pl_X3_fails) gc_X3 m0.1 ((k_fails hb m0)) (by omega) (Nat.le_of_ble_eq_true rfl) (by omega) (by omega) rfl (Nat.le_of_ble_eq_true rfl) rfl (kI fun r17 h17 n17 e17 => ?_) kN
    obtain ⟨rfl, m1, t1, rfl⟩ := e17
    exact r_ireturn dX3_bake_20 rfl rfl (⟨mC.no c12 m1, t0.tr t1, rfl⟩)
theorem k_setOvens {p : Int32} (hb : k_b K ≤ a) (m : mS a V R A h) (w : wB u (R 1)) (hc : V 0 5 = nI c) (hf : V 0 6 = nI f) (hc8 : c ≤ 8) (hf8 : f < 8) : g_Met K mX3_setOvens 5 0 0 [.ref a, .int p] h n (gI fun r h' n' => mC a V R A c f (eOv p) (R 1 5) (fup (R 1) 5 (tN p)) (A 1) r h' ∧ mT a h h' ∧ n' = n) gN := by
  have b := w.b
  have z := eOv_b (p := p)
  refine g_Met.of (M := mX3_setOvens) (L := [some (.ref a), some (.int p)]) (by decide +kernel) (Nat.le_of_ble_eq_true rfl) rfl ?_
  refine r_aload0 dX3_setOvens_0 ?_
  refine r_iconst (v := nI 0) dX3_setOvens_1 (by decide) ?_
  refine p_X3_1_X3 dX3_setOvens_2 (by omega) m.1 ?_
  refine m.goZ (fun h0 m0 t0 => ?_)
  refine r_iload1 dX3_setOvens_5 ?_
  refine r_callS (M' := mX3_notOvens) _ dX3_setOvens_6 q3684 q3685 rfl (lw_all_tbl q3686) q138 (by exact pl_X3_notOvens)  (k_notOvens) (by omega) (Nat.le_of_ble_eq_true rfl) (by omega) (by omega) rfl (Nat.le_of_ble_eq_true rfl) rfl (kI fun r6 h6 n6 e6 => ?_) kN
  obtain ⟨rfl, rfl, rfl⟩ := e6
  refine r_if_eqN (tgt := 18) dX3_setOvens_9 (by decide) (by omega) (fun c9 => ?_) (fun c9 => ?_)
  · obtain ⟨i, i1, i2, rfl, ti⟩ := bt_ex (eOv_0 c9)
    refine r_aload0 dX3_setOvens_18 ?_
    refine r_callV (M' := mX3_remembers) _ dX3_setOvens_19 q3493 q3495 qs58 rfl (lw_all_tbl q3496) q138 (by exact pl_X3_remembers) gc_X3 m0.1 ((k_remembers hb m0 (by rw [vZ_n (by decide)]; exact hc) (by rw [vZ_n (by decide)]; exact hf) hc8 hf8)) (by omega) (Nat.le_of_ble_eq_true rfl) (by omega) (by omega) rfl (Nat.le_of_ble_eq_true rfl) rfl (kV fun h19 n19 e19 => ?_) kN
    obtain ⟨m1, t1, rfl⟩ := e19
    refine r_aload0 dX3_setOvens_22 ?_
    refine r_iconst (v := nI 5) dX3_setOvens_23 (by decide) ?_
    refine r_iload1 dX3_setOvens_24 ?_
    refine r_callV (M' := mX3_takes) _ dX3_setOvens_25 q3604 q3606 qs80 rfl (lw_all_tbl q3607) q138 (by exact pl_X3_takes) gc_X3 m1.1 ((k_takes hb m1 (by decide) (by decide) (by omega))) (by omega) (Nat.le_of_ble_eq_true rfl) (by omega) (by omega) rfl (Nat.le_of_ble_eq_true rfl) rfl (kI fun r25 h25 n25 e25 => ?_) kN
    obtain ⟨rfl, m2, t2, rfl⟩ := e25
    rw [rR_1] at m2 ⊢
    exact r_ireturn dX3_setOvens_28 rfl rfl (⟨mC.yes c9 rfl (m2.to rfl (by rw [ti]) (by rw [← rR_1 (R := A) (c := c) (f := f), up1_self])), (t0.tr t1).tr t2, rfl⟩)
  · refine r_aload0 dX3_setOvens_12 ?_
    refine r_iconst (v := nI 1) dX3_setOvens_13 (by decide) ?_
    refine r_callV (M' := mX3_fails) _ dX3_setOvens_14 q3489 q3491 qs57 rfl (lw_all_tbl q3492) q138 (by exact pl_X3_fails) gc_X3 m0.1 ((k_fails hb m0)) (by omega) (Nat.le_of_ble_eq_true rfl) (by omega) (by omega) rfl (Nat.le_of_ble_eq_true rfl) rfl (kI fun r14 h14 n14 e14 => ?_) kN
    obtain ⟨rfl, m1, t1, rfl⟩ := e14
    exact r_ireturn dX3_setOvens_17 rfl rfl (⟨by rw [show eOv p = 1 by omega]; exact mC.no (by decide) m1, t0.tr t1, rfl⟩)
theorem k_setRounding {p : Int32} (hb : k_b K ≤ a) (m : mS a V R A h) (w : wB u (R 1)) (hc : V 0 5 = nI c) (hf : V 0 6 = nI f) (hc8 : c ≤ 8) (hf8 : f < 8) : g_Met K mX3_setRounding 5 0 0 [.ref a, .int p] h n (gI fun r h' n' => mC a V R A c f (if ruI p then 0 else 1) (R 1 4) (fup (R 1) 4 (tN p)) (A 1) r h' ∧ mT a h h' ∧ n' = n) gN := by
  have b := w.b
  have hr : rul (R 1 4) := b.2.2.2.2.2.1
  refine g_Met.of (M := mX3_setRounding) (L := [some (.ref a), some (.int p)]) (by decide +kernel) (Nat.le_of_ble_eq_true rfl) rfl ?_
  refine r_aload0 dX3_setRounding_0 ?_
  refine r_iconst (v := nI 0) dX3_setRounding_1 (by decide) ?_
  refine p_X3_1_X3 dX3_setRounding_2 (by omega) m.1 ?_
  refine m.goZ (fun h0 m0 t0 => ?_)
  refine r_iload1 dX3_setRounding_5 ?_
  refine r_callS (M' := mX3_isRule) _ dX3_setRounding_6 q3612 q3613 rfl (lw_all_tbl q3614) q138 (by exact pl_X3_isRule)  (k_isRule) (by omega) (Nat.le_of_ble_eq_true rfl) (by omega) (by omega) rfl (Nat.le_of_ble_eq_true rfl) rfl (kI fun r6 h6 n6 e6 => ?_) kN
  obtain ⟨rfl, rfl, rfl⟩ := e6
  refine r_if_neB (tgt := 19) dX3_setRounding_9 (by decide) (fun c9 => ?_) (fun c9 => ?_)
  · obtain ⟨i, i1, rfl⟩ : ∃ i, i < 200 ∧ p = nI i := by rcases c9 with z | z | z | z <;> exact ⟨_, by decide, z⟩
    refine r_aload0 dX3_setRounding_19 ?_
    refine r_callV (M' := mX3_remembers) _ dX3_setRounding_20 q3493 q3495 qs58 rfl (lw_all_tbl q3496) q138 (by exact pl_X3_remembers) gc_X3 m0.1 ((k_remembers hb m0 (by rw [vZ_n (by decide)]; exact hc) (by rw [vZ_n (by decide)]; exact hf) hc8 hf8)) (by omega) (Nat.le_of_ble_eq_true rfl) (by omega) (by omega) rfl (Nat.le_of_ble_eq_true rfl) rfl (kV fun h20 n20 e20 => ?_) kN
    obtain ⟨m1, t1, rfl⟩ := e20
    refine r_aload0 dX3_setRounding_23 ?_
    refine r_iconst (v := nI 4) dX3_setRounding_24 (by decide) ?_
    refine r_iload1 dX3_setRounding_25 ?_
    refine r_callV (M' := mX3_takes) _ dX3_setRounding_26 q3604 q3606 qs80 rfl (lw_all_tbl q3607) q138 (by exact pl_X3_takes) gc_X3 m1.1 ((k_takes hb m1 (by decide) (by decide) (by omega))) (by omega) (Nat.le_of_ble_eq_true rfl) (by omega) (by omega) rfl (Nat.le_of_ble_eq_true rfl) rfl (kI fun r26 h26 n26 e26 => ?_) kN
    obtain ⟨rfl, m2, t2, rfl⟩ := e26
    rw [rR_1] at m2 ⊢
    refine r_i2c dX3_setRounding_29 (show _ = nI (R 1 4) by rcases hr with z | z | z | z <;> rw [z] <;> decide) ?_
    exact r_ireturn dX3_setRounding_30 rfl (by rcases hr with z | z | z | z <;> rw [z] <;> decide) (⟨by rw [if_pos c9]; exact mC.yes rfl rfl (m2.to rfl (by rw [tN_nI (by omega)]) (by rw [← rR_1 (R := A) (c := c) (f := f), up1_self])), (t0.tr t1).tr t2, rfl⟩)
  · refine r_aload0 dX3_setRounding_12 ?_
    refine r_iconst (v := nI 1) dX3_setRounding_13 (by decide) ?_
    refine r_callV (M' := mX3_fails) _ dX3_setRounding_14 q3489 q3491 qs57 rfl (lw_all_tbl q3492) q138 (by exact pl_X3_fails) gc_X3 m0.1 ((k_fails hb m0)) (by omega) (Nat.le_of_ble_eq_true rfl) (by omega) (by omega) rfl (Nat.le_of_ble_eq_true rfl) rfl (kI fun r14 h14 n14 e14 => ?_) kN
    obtain ⟨rfl, m1, t1, rfl⟩ := e14
    refine r_i2c dX3_setRounding_17 rfl ?_
    exact r_ireturn dX3_setRounding_18 rfl rfl (⟨by rw [if_neg c9]; exact mC.no (by decide) m1, t0.tr t1, rfl⟩)
end
