section MODEL1
set_option maxRecDepth 100000
variable {g : xG} {l : Launch} {m : Nat} {A : Nat → Nat} {I : Nat → Int32} {B : Nat → Nat → Int32} {wd : Int64}
theorem m_in (h : xH) (v lo hi : Int64) (d : Nat) : Ct g l mX3_in d 0 0 [.long v, .long lo, .long hi] h (fun o h' => o = .inl (some (.int (bI (decide (lo ≤ v ∧ v ≤ hi))))) ∧ h' = h) := by
  refine Ct.of [some (.long v), none, some (.long lo), none, some (.long hi), none] (by decide +kernel) rfl (Nat.le_of_ble_eq_true rfl) rfl rfl ?_
  refine x_lload_n (M := mX3_in) (pc := 0) dX3_in_0 rfl ?_
  refine x_lload_n (M := mX3_in) (pc := 1) dX3_in_1 rfl ?_
  refine x_lcmp (M := mX3_in) (pc := 2) dX3_in_2 ?_
  first | refine x_if_lt (M := mX3_in) (pc := 3) 17 dX3_in_3 (by decide) (fun c1 => ?_) (fun c1 => ?_)
  · refine x_iconst (M := mX3_in) (pc := 17) (v := nI 0) dX3_in_17 (by decide) ?_
    refine x_zret (M := mX3_in) (pc := 18) dX3_in_18 rfl (by first | with_reducible exact xz0 | with_reducible exact xz1 | with_reducible exact bI_01 _ | with_reducible assumption | assumption) (Nat.le_refl 0) (Nat.le_refl 0) ?_
    exact ⟨congrArg Sum.inl (rV0 (fun q => absurd ((lg_lt _ _).mp c1) (by rw [Int64.not_lt]; exact q.1))), rfl⟩
  · refine x_lload_n (M := mX3_in) (pc := 6) dX3_in_6 rfl ?_
    refine x_lload (M := mX3_in) (pc := 7) dX3_in_7 rfl ?_
    refine x_lcmp (M := mX3_in) (pc := 9) dX3_in_9 ?_
    first | with_reducible refine x_if_gtN (M := mX3_in) (pc := 10) 17 dX3_in_10 (by decide) (by omega) (fun c2 => ?_) (fun c2 => ?_) | refine x_if_gt (M := mX3_in) (pc := 10) 17 dX3_in_10 (by decide) (fun c2 => ?_) (fun c2 => ?_)
    · refine x_iconst (M := mX3_in) (pc := 17) (v := nI 0) dX3_in_17 (by decide) ?_
      refine x_zret (M := mX3_in) (pc := 18) dX3_in_18 rfl (by first | with_reducible exact xz0 | with_reducible exact xz1 | with_reducible exact bI_01 _ | with_reducible assumption | assumption) (Nat.le_refl 0) (Nat.le_refl 0) ?_
      exact ⟨congrArg Sum.inl (rV0 (fun q => absurd ((lg_gt _ _).mp c2) (by rw [Int64.not_lt]; exact q.2))), rfl⟩
    · refine x_iconst (M := mX3_in) (pc := 13) (v := nI 1) dX3_in_13 (by decide) ?_
      refine x_goto (M := mX3_in) (pc := 14) 18 dX3_in_14 (by decide) ?_
      refine x_zret (M := mX3_in) (pc := 18) dX3_in_18 rfl (by first | with_reducible exact xz0 | with_reducible exact xz1 | with_reducible exact bI_01 _ | with_reducible assumption | assumption) (Nat.le_refl 0) (Nat.le_refl 0) ?_
      refine ⟨?_, rfl⟩
      have e1 : lo ≤ v := by rw [← Int64.not_lt]; exact fun q => c1 ((lg_lt _ _).mpr q)
      have e2 : v ≤ hi := by rw [← Int64.not_lt]; exact fun q => by rw [Int32.not_lt] at c2; exact absurd ((lg_gt _ _).mpr q) (by rw [Int32.not_lt]; exact c2)
      exact congrArg Sum.inl (rV1 ⟨e1, e2⟩)
theorem m_has (h : xH) (a b : Int32) (d : Nat) : Ct g l mX3_has d 0 0 [.int a, .int b] h (fun o h' => o = .inl (some (.int (bI (decide ((a >>> (b &&& 31)) &&& 1 = 1))))) ∧ h' = h) := by
  refine Ct.of [some (.int a), some (.int b)] (by decide +kernel) rfl (Nat.le_of_ble_eq_true rfl) rfl rfl ?_
  refine x_iload_n (M := mX3_has) (pc := 0) dX3_has_0 rfl ?_
  refine x_iload_n (M := mX3_has) (pc := 1) dX3_has_1 rfl ?_
  refine x_ishr (M := mX3_has) (pc := 2) dX3_has_2 ?_
  refine x_iconst (M := mX3_has) (pc := 3) (v := nI 1) dX3_has_3 (by decide) ?_
  refine x_iand (M := mX3_has) (pc := 4) dX3_has_4 ?_
  refine x_iconst (M := mX3_has) (pc := 5) (v := nI 1) dX3_has_5 (by decide) ?_
  refine x_icmp_ne (M := mX3_has) (pc := 6) 13 dX3_has_6 (by decide) (fun r_c1 => ?_) (fun r_c1 => ?_)
  · refine x_iconst (M := mX3_has) (pc := 13) (v := nI 0) dX3_has_13 (by decide) ?_
    refine x_zret (M := mX3_has) (pc := 14) dX3_has_14 rfl (by first | with_reducible exact xz0 | with_reducible exact xz1 | with_reducible exact bI_01 _ | with_reducible assumption | assumption) (Nat.le_refl 0) (Nat.le_refl 0) ?_
    exact ⟨congrArg Sum.inl (rV0 r_c1), rfl⟩
  · refine x_iconst (M := mX3_has) (pc := 9) (v := nI 1) dX3_has_9 (by decide) ?_
    refine x_goto (M := mX3_has) (pc := 10) 14 dX3_has_10 (by decide) ?_
    refine x_zret (M := mX3_has) (pc := 14) dX3_has_14 rfl (by first | with_reducible exact xz0 | with_reducible exact xz1 | with_reducible exact bI_01 _ | with_reducible assumption | assumption) (Nat.le_refl 0) (Nat.le_refl 0) ?_
    exact ⟨congrArg Sum.inl (rV1 r_c1), rfl⟩
def p_noPrint (k : Nat) (s : Nat → Int32) : Nat → Int32 := fun j => if 90 ≤ j ∧ j < 90 + k then -1 else if 122 ≤ j ∧ j < 122 + k then 0 else s j
theorem m_noPrint_loop (d : Nat) (Q : xO → xH → Prop) (h0 : xH) (hE : ∀ h, MR g h m A I (va_up B 0 (p_noPrint 32 (B 0))) wd → MF m A h0 h → Q (.inl none) h) : ∀ n k, k + n = 32 → ∀ h, MR g h m A I (va_up B 0 (p_noPrint k (B 0))) wd → MF m A h0 h → X g l mX3_noPrint d 0 0 Q 2 [some (.ref m), some (.int (nI k))] [] h 0 0 := by
  intro n
  induction n with
  | zero =>
    intro k hk h hM hF
    refine x_iload_n (M := mX3_noPrint) (pc := 2) dX3_noPrint_2 rfl ?_
    refine x_bipush (M := mX3_noPrint) (pc := 3) (v := nI 32) dX3_noPrint_3 (by decide) ?_
    first | with_reducible refine x_icmp_geN (M := mX3_noPrint) (pc := 5) 34 dX3_noPrint_5 (by decide) (by omega) (by omega) (fun c1 => ?_) (fun c1 => ?_) | refine x_icmp_ge (M := mX3_noPrint) (pc := 5) 34 dX3_noPrint_5 (by decide) (fun c1 => ?_) (fun c1 => ?_)
    · refine x_vret (pc := 34) dX3_noPrint_34 rfl (Nat.le_refl 0) (Nat.le_refl 0) (hE h ?_ hF)
      rw [show (32 : Nat) = k by omega]; exact hM
    · omega
  | succ n ih =>
    intro k hk h hM hF
    refine x_iload_n (M := mX3_noPrint) (pc := 2) dX3_noPrint_2 rfl ?_
    refine x_bipush (M := mX3_noPrint) (pc := 3) (v := nI 32) dX3_noPrint_3 (by decide) ?_
    first | with_reducible refine x_icmp_geN (M := mX3_noPrint) (pc := 5) 34 dX3_noPrint_5 (by decide) (by omega) (by omega) (fun c1 => ?_) (fun c1 => ?_) | refine x_icmp_ge (M := mX3_noPrint) (pc := 5) 34 dX3_noPrint_5 (by decide) (fun c1 => ?_) (fun c1 => ?_)
    · omega
    · refine x_aload_n (M := mX3_noPrint) (pc := 8) dX3_noPrint_8 rfl ?_
      refine x_get (M := mX3_noPrint) (pc := 9) kcX3 0 rfl q2835 dX3_noPrint_9 hM.1 rfl ?_
      refine x_bipush (M := mX3_noPrint) (pc := 12) (v := nI 90) dX3_noPrint_12 (by decide) ?_
      refine x_iload_n (M := mX3_noPrint) (pc := 14) dX3_noPrint_14 rfl ?_
      first | with_reducible refine x_iaddN (M := mX3_noPrint) (pc := 15) dX3_noPrint_15 ?_ | refine x_iadd (M := mX3_noPrint) (pc := 15) dX3_noPrint_15 ?_
      refine x_iconst (M := mX3_noPrint) (pc := 16) (v := (-1)) dX3_noPrint_16 (by decide) ?_
      refine xm_iast (M := mX3_noPrint) (pc := 17) hM hF dX3_noPrint_17 (by decide) (by first | decide | (simp only [mSz] <;> omega)) (fun h hM hF => ?_)
      refine x_aload_n (M := mX3_noPrint) (pc := 18) dX3_noPrint_18 rfl ?_
      refine x_get (M := mX3_noPrint) (pc := 19) kcX3 0 rfl q2835 dX3_noPrint_19 hM.1 rfl ?_
      refine x_bipush (M := mX3_noPrint) (pc := 22) (v := nI 122) dX3_noPrint_22 (by decide) ?_
      refine x_iload_n (M := mX3_noPrint) (pc := 24) dX3_noPrint_24 rfl ?_
      first | with_reducible refine x_iaddN (M := mX3_noPrint) (pc := 25) dX3_noPrint_25 ?_ | refine x_iadd (M := mX3_noPrint) (pc := 25) dX3_noPrint_25 ?_
      refine x_iconst (M := mX3_noPrint) (pc := 26) (v := nI 0) dX3_noPrint_26 (by decide) ?_
      refine xm_iast (M := mX3_noPrint) (pc := 27) hM hF dX3_noPrint_27 (by decide) (by first | decide | (simp only [mSz] <;> omega)) (fun h hM hF => ?_)
      first | refine x_iinc1N (M := mX3_noPrint) (pc := 28) (c := 1) dX3_noPrint_28 oI1 ?_ | refine x_iinc1 (M := mX3_noPrint) (pc := 28) (c := 1) dX3_noPrint_28 (by decide) ?_
      refine x_goto (M := mX3_noPrint) (pc := 31) 2 dX3_noPrint_31 (by decide) ?_
      refine ih (k + 1) (by omega) h (hM.toB fun j t => ?_) hF
      by_cases hj : j = 0
      · subst hj
        simp only [va_up, upd, p_noPrint, if_true, show nI 0 = 0 from rfl]
        repeat' split
        all_goals first | rfl | (exfalso; omega)
      · simp [va_up, hj]
theorem m_noPrint (d : Nat) : MC g l mX3_noPrint d [] m A I B wd (fun v I' B' wd' => v = none ∧ I' = I ∧ B' = va_up B 0 (p_noPrint 32 (B 0)) ∧ wd' = wd) := by
  intro h hM
  refine Ct.of [some (.ref m), none] (by decide +kernel) rfl (Nat.le_of_ble_eq_true rfl) rfl rfl ?_
  refine x_iconst (M := mX3_noPrint) (pc := 0) (v := nI 0) dX3_noPrint_0 (by decide) ?_
  refine x_istore1 (M := mX3_noPrint) (pc := 1) dX3_noPrint_1 ?_
  refine m_noPrint_loop d _ h (fun h' hM hF => ⟨_, _, _, _, rfl, ⟨rfl, rfl, rfl, rfl⟩, hM, hF⟩) 32 0 rfl h (hM.toB fun j t => ?_) MF.rf
  by_cases hj : j = 0
  · subst hj; simp only [va_up, p_noPrint, if_true]; rw [if_neg (by omega), if_neg (by omega)]
  · simp [va_up, hj]
theorem m_cells (d : Nat) : MC g l mX3_cells d [] m A I B wd (fun v I' B' wd' => v = some (.int (B 0 0 * B 0 1)) ∧ I' = I ∧ B' = B ∧ wd' = wd) := by
  intro h hM
  have hF : MF m A h h := MF.rf
  refine Ct.of [some (.ref m)] (by decide +kernel) rfl (Nat.le_of_ble_eq_true rfl) rfl rfl ?_
  refine x_aload_n (M := mX3_cells) (pc := 0) dX3_cells_0 rfl ?_
  refine x_get (M := mX3_cells) (pc := 1) kcX3 0 rfl q2835 dX3_cells_1 hM.1 rfl ?_
  refine x_iconst (M := mX3_cells) (pc := 4) (v := nI 0) dX3_cells_4 (by decide) ?_
  refine xm_iald (M := mX3_cells) (pc := 5) hM dX3_cells_5 (by decide) (by first | decide | (simp only [mSz] <;> omega)) ?_
  refine x_aload_n (M := mX3_cells) (pc := 6) dX3_cells_6 rfl ?_
  refine x_get (M := mX3_cells) (pc := 7) kcX3 0 rfl q2835 dX3_cells_7 hM.1 rfl ?_
  refine x_iconst (M := mX3_cells) (pc := 10) (v := nI 1) dX3_cells_10 (by decide) ?_
  refine xm_iald (M := mX3_cells) (pc := 11) hM dX3_cells_11 (by decide) (by first | decide | (simp only [mSz] <;> omega)) ?_
  first | with_reducible refine x_imulN (M := mX3_cells) (pc := 12) dX3_cells_12 ?_ | refine x_imul (M := mX3_cells) (pc := 12) dX3_cells_12 ?_
  refine x_iret (M := mX3_cells) (pc := 13) dX3_cells_13 rfl (Nat.le_refl 0) (Nat.le_refl 0) ⟨_, _, _, _, rfl, ?_, hM, hF⟩
  exact ⟨rfl, rfl, rfl, rfl⟩
theorem m_isHeld (d : Nat) : MC g l mX3_isHeld d [] m A I B wd (fun v I' B' wd' => v = some (.int (bI (decide (B 0 8 ≠ 0 ∨ B 0 9 ≠ 0)))) ∧ I' = I ∧ B' = B ∧ wd' = wd) := by
  intro h hM
  have hF : MF m A h h := MF.rf
  refine Ct.of [some (.ref m)] (by decide +kernel) rfl (Nat.le_of_ble_eq_true rfl) rfl rfl ?_
  refine x_aload_n (M := mX3_isHeld) (pc := 0) dX3_isHeld_0 rfl ?_
  refine x_get (M := mX3_isHeld) (pc := 1) kcX3 0 rfl q2835 dX3_isHeld_1 hM.1 rfl ?_
  refine x_bipush (M := mX3_isHeld) (pc := 4) (v := nI 8) dX3_isHeld_4 (by decide) ?_
  refine xm_iald (M := mX3_isHeld) (pc := 6) hM dX3_isHeld_6 (by decide) (by first | decide | (simp only [mSz] <;> omega)) ?_
  refine x_if_ne (M := mX3_isHeld) (pc := 7) 20 dX3_isHeld_7 (by decide) (fun r_c1 => ?_) (fun r_c1 => ?_)
  · refine x_iconst (M := mX3_isHeld) (pc := 20) (v := nI 1) dX3_isHeld_20 (by decide) ?_
    refine x_goto (M := mX3_isHeld) (pc := 21) 25 dX3_isHeld_21 (by decide) ?_
    refine x_zret (M := mX3_isHeld) (pc := 25) dX3_isHeld_25 rfl (by first | with_reducible exact xz0 | with_reducible exact xz1 | with_reducible exact bI_01 _ | with_reducible assumption | assumption) (Nat.le_refl 0) (Nat.le_refl 0) ⟨_, _, _, _, rfl, ?_, hM, hF⟩
    exact ⟨rV1 (Or.inl r_c1), rfl, rfl, rfl⟩
  · refine x_aload_n (M := mX3_isHeld) (pc := 10) dX3_isHeld_10 rfl ?_
    refine x_get (M := mX3_isHeld) (pc := 11) kcX3 0 rfl q2835 dX3_isHeld_11 hM.1 rfl ?_
    refine x_bipush (M := mX3_isHeld) (pc := 14) (v := nI 9) dX3_isHeld_14 (by decide) ?_
    refine xm_iald (M := mX3_isHeld) (pc := 16) hM dX3_isHeld_16 (by decide) (by first | decide | (simp only [mSz] <;> omega)) ?_
    refine x_if_eq (M := mX3_isHeld) (pc := 17) 24 dX3_isHeld_17 (by decide) (fun r_c2 => ?_) (fun r_c2 => ?_)
    · refine x_iconst (M := mX3_isHeld) (pc := 24) (v := nI 0) dX3_isHeld_24 (by decide) ?_
      refine x_zret (M := mX3_isHeld) (pc := 25) dX3_isHeld_25 rfl (by first | with_reducible exact xz0 | with_reducible exact xz1 | with_reducible exact bI_01 _ | with_reducible assumption | assumption) (Nat.le_refl 0) (Nat.le_refl 0) ⟨_, _, _, _, rfl, ?_, hM, hF⟩
      exact ⟨rV0 (by simp [r_c1, r_c2]), rfl, rfl, rfl⟩
    · refine x_iconst (M := mX3_isHeld) (pc := 20) (v := nI 1) dX3_isHeld_20 (by decide) ?_
      refine x_goto (M := mX3_isHeld) (pc := 21) 25 dX3_isHeld_21 (by decide) ?_
      refine x_zret (M := mX3_isHeld) (pc := 25) dX3_isHeld_25 rfl (by first | with_reducible exact xz0 | with_reducible exact xz1 | with_reducible exact bI_01 _ | with_reducible assumption | assumption) (Nat.le_refl 0) (Nat.le_refl 0) ⟨_, _, _, _, rfl, ?_, hM, hF⟩
      exact ⟨rV1 (Or.inr r_c2), rfl, rfl, rfl⟩
end MODEL1
