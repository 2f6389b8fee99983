section PURE5
set_option maxRecDepth 100000
theorem p_ones_low : ∀ n k, 0 < k → k < 2 ^ n → p_ones n k = p_ones n (k &&& (k - 1)) + 1
  | 0, k, h0, h1 => by simp at h1; omega
  | n + 1, k, h0, h1 => by
    have hd : (k &&& (k - 1)) / 2 = k / 2 &&& (k - 1) / 2 := Nat.and_div_two
    have hm : (k &&& (k - 1)) % 2 = 0 := by
      have h2 : (k &&& (k - 1)).testBit 0 = false := by
        rw [Nat.testBit_and, Nat.testBit_zero, Nat.testBit_zero]
        simp
        omega
      rw [Nat.testBit_zero] at h2
      have h3 := of_decide_eq_false h2
      omega
    rw [p_ones, p_ones, hd, hm]
    rcases Nat.mod_two_eq_zero_or_one k with e | e
    · have h3 : (k - 1) / 2 = k / 2 - 1 := by omega
      rw [h3, p_ones_low n (k / 2) (by omega) (by rw [Nat.pow_succ] at h1; omega)]
      omega
    · have h3 : (k - 1) / 2 = k / 2 := by omega
      rw [h3, Nat.and_self]
      omega
theorem p_low_lt {k : Nat} (h : 0 < k) : (k &&& (k - 1)) < k := Nat.lt_of_le_of_lt Nat.and_le_right (by omega)
theorem p_ones_0 : ∀ n, p_ones n 0 = 0
  | 0 => rfl
  | n + 1 => by rw [p_ones, p_ones_0 n]
theorem p_ones_le : ∀ n k, p_ones n k ≤ n
  | 0, _ => Nat.le_refl _
  | n + 1, k => by rw [p_ones]; have := p_ones_le n (k / 2); omega
theorem p_layn_cell {hi wi : Nat} {fo : Nat → Nat} (h : p_ok hi wi 1 = true) : ∀ n, p_cans hi wi fo n = true → ∀ t, t < hi * wi → ((p_layn hi wi fo n).2.2.2 t).1 < hi * wi
  | 0, _, t, ht => ht
  | n + 1, hc, t, ht => by
    simp only [p_cans, Bool.and_eq_true] at hc
    obtain ⟨h1, h2⟩ := p_layn_ok h n hc.1
    obtain ⟨y1, y2, -⟩ := p_okf h1 hc.2
    have b := p_ok_b h1
    have ih := p_layn_cell h n hc.1
    have hp : t / (2 * (p_layn hi wi fo n).2.2.1) < p_hi (fo n) (p_layn hi wi fo n).1 * p_wi (fo n) (p_layn hi wi fo n).2.1 := by
      rw [Nat.div_lt_iff_lt_mul (by omega), y2, h2]; exact ht
    obtain ⟨x1, x2, x3, x4, x5⟩ := p_fbx h1 hc.2 hp
    have hm := Nat.mod_lt t (show 2 * (p_layn hi wi fo n).2.2.1 > 0 by omega)
    show (p_fold (fo n) (p_layn hi wi fo n).1 (p_layn hi wi fo n).2.1 (p_layn hi wi fo n).2.2.1 (p_layn hi wi fo n).2.2.2 t).1 < hi * wi
    unfold p_fold
    split
    · have : ∀ x : Lay, (p_turn (fo n) x).1 = x.1 := fun x => by unfold p_turn; split <;> rfl
      rw [this]
      exact ih _ (by omega)
    · exact ih _ (by omega)
theorem clr_tab : ((List.range 1024).all fun a => (List.range 10).all fun p => decide (nI a &&& (nI (2 ^ p) ^^^ (-1)) = nI (p_clr a p))) = true := by decide +kernel
theorem nI_clr {a p : Nat} (ha : a < 1024) (hp : p < 10) : nI a &&& (nI (2 ^ p) ^^^ (-1)) = nI (p_clr a p) := of_decide_eq_true (rg (rg clr_tab ha) hp)
theorem p_clr_le (a p : Nat) : p_clr a p ≤ a := by
  unfold p_clr
  split
  · exact Nat.sub_le _ _
  · exact Nat.le_refl _
end PURE5
section MODELB
set_option maxRecDepth 100000
variable {g : xG} {l : Launch} {m : Nat} {A : Nat → Nat} {I : Nat → Int32} {B : Nat → Nat → Int32} {wd : Int64}
theorem m_ones_l (h : xH) (d n0 : Nat) (hn0 : n0 < 100) (x0 : Int32) (Q : xO → xH → Prop) (hE : Q (.inl (some (.int (nI n0)))) h) : ∀ q k c, k ≤ q → k < 65536 → c + p_ones 16 k = n0 → X g l mX3_ones d 0 0 Q 4 [some (.int x0), some (.int (nI c)), some (.int (nI k))] [] h 0 0 := by
  intro q
  induction q with
  | zero =>
    intro k c hk _ hc
    have : k = 0 := by omega
    subst this
    rw [p_ones_0] at hc
    refine x_iload_n (M := mX3_ones) (pc := 4) dX3_ones_4 rfl ?_
    first | with_reducible refine x_ifB_eq (M := mX3_ones) (pc := 5) 20 dX3_ones_5 (by decide) (fun c1 => ?_) (fun c1 => ?_) | with_reducible refine x_if_eqN (M := mX3_ones) (pc := 5) 20 dX3_ones_5 (by decide) (by omega) (fun c1 => ?_) (fun c1 => ?_) | refine x_if_eq (M := mX3_ones) (pc := 5) 20 dX3_ones_5 (by decide) (fun c1 => ?_) (fun c1 => ?_)
    · refine x_iload_n (M := mX3_ones) (pc := 20) dX3_ones_20 rfl ?_
      rw [show c = n0 by omega]
      exact x_iret (pc := 21) dX3_ones_21 rfl (Nat.le_refl 0) (Nat.le_refl 0) hE
    · omega
  | succ q ih =>
    intro k c hk hk2 hc
    refine x_iload_n (M := mX3_ones) (pc := 4) dX3_ones_4 rfl ?_
    first | with_reducible refine x_ifB_eq (M := mX3_ones) (pc := 5) 20 dX3_ones_5 (by decide) (fun c1 => ?_) (fun c1 => ?_) | with_reducible refine x_if_eqN (M := mX3_ones) (pc := 5) 20 dX3_ones_5 (by decide) (by omega) (fun c1 => ?_) (fun c1 => ?_) | refine x_if_eq (M := mX3_ones) (pc := 5) 20 dX3_ones_5 (by decide) (fun c1 => ?_) (fun c1 => ?_)
    · subst c1
      rw [p_ones_0] at hc
      refine x_iload_n (M := mX3_ones) (pc := 20) dX3_ones_20 rfl ?_
      rw [show c = n0 by omega]
      exact x_iret (pc := 21) dX3_ones_21 rfl (Nat.le_refl 0) (Nat.le_refl 0) hE
    · first | refine x_iinc1N (M := mX3_ones) (pc := 8) (c := 1) dX3_ones_8 oI1 ?_ | refine x_iinc1 (M := mX3_ones) (pc := 8) (c := 1) dX3_ones_8 (by decide) ?_
      refine x_iload_n (M := mX3_ones) (pc := 11) dX3_ones_11 rfl ?_
      refine x_iload_n (M := mX3_ones) (pc := 12) dX3_ones_12 rfl ?_
      refine x_iconst (M := mX3_ones) (pc := 13) (v := nI 1) dX3_ones_13 (by decide) ?_
      first | with_reducible refine x_isubN (M := mX3_ones) (pc := 14) dX3_ones_14 (by omega) ?_ | refine x_isub (M := mX3_ones) (pc := 14) dX3_ones_14 ?_
      refine x_iand (M := mX3_ones) (pc := 15) dX3_ones_15 ?_
      refine x_val (M := mX3_ones) (pc := 16) (nI_and k (k - 1)) ?_
      refine x_istore2 (M := mX3_ones) (pc := 16) dX3_ones_16 ?_
      refine x_goto (M := mX3_ones) (pc := 17) 4 dX3_ones_17 (by decide) ?_
      have := p_low_lt (k := k) (by omega)
      have h2 := p_ones_low 16 k (by omega) hk2
      exact ih _ (c + 1) (by omega) (by omega) (by omega)
theorem m_ones (h : xH) (k d : Nat) (hk : k < 65536) : Ct g l mX3_ones d 0 0 [.int (nI k)] h (fun o h' => o = .inl (some (.int (nI (p_ones 16 k)))) ∧ h' = h) := by
  refine Ct.of [some (.int (nI k)), none, none] (by decide +kernel) rfl (Nat.le_of_ble_eq_true rfl) rfl rfl ?_
  refine x_iconst (M := mX3_ones) (pc := 0) (v := nI 0) dX3_ones_0 (by decide) ?_
  refine x_istore1 (M := mX3_ones) (pc := 1) dX3_ones_1 ?_
  refine x_iload_n (M := mX3_ones) (pc := 2) dX3_ones_2 rfl ?_
  refine x_istore2 (M := mX3_ones) (pc := 3) dX3_ones_3 ?_
  exact m_ones_l h d (p_ones 16 k) (by have := p_ones_le 16 k; omega) _ _ ⟨rfl, rfl⟩ k k 0 (Nat.le_refl _) hk (Nat.zero_add _)
theorem BK_of {hi wi nf : Nat} {fo : Nat → Nat} (hok : p_ok hi wi 1 = true) (hc : p_cans hi wi fo nf = true) (hY : LAYN I B hi wi fo nf) (hb : 2 ^ nf = hi * wi) (h1 : B 0 1 = nI wi) : BK I B (hi * wi) wi (p_layn hi wi fo nf).2.2.2 := by
  have b := p_ok_b hok
  have hm := p_layn_ma hi wi fo nf
  obtain ⟨z1, z2⟩ := p_layn_ok hok nf hc
  refine ⟨hY.2.2.1.trans (congrArg nI (hm.trans hb)), h1, fun t ht => ⟨hY.2.2.2 t (by rw [z2]; exact ht), p_layn_cell hok nf hc t ht⟩, ?_, by omega, by omega, by omega⟩
  exact Nat.mul_pos (by omega) (by omega)
theorem m_isCell (d : Nat) (x y : Int32) (hd : 1 ≤ d) : MCr g l mX3_isCell d [.int x, .int y] m A I B wd (some (.int (bI (zCell (B 0) x y)))) := by
  intro h hM
  refine Ct.of [some (.ref m), some (.int x), some (.int y)] (by decide +kernel) rfl (Nat.le_of_ble_eq_true rfl) rfl rfl ?_
  refine x_iload_n (M := mX3_isCell) (pc := 0) dX3_isCell_0 rfl ?_
  refine x_i2l (M := mX3_isCell) (pc := 1) dX3_isCell_1 ?_
  refine x_lconst (M := mX3_isCell) (pc := 2) (v := 0) dX3_isCell_2 (by decide) ?_
  refine x_aload_n (M := mX3_isCell) (pc := 3) dX3_isCell_3 rfl ?_
  refine x_get (M := mX3_isCell) (pc := 4) kcX3 0 rfl q2835 dX3_isCell_4 hM.1 rfl ?_
  refine x_iconst (M := mX3_isCell) (pc := 7) (v := nI 0) dX3_isCell_7 (by decide) ?_
  refine xm_iald (M := mX3_isCell) (pc := 8) hM dX3_isCell_8 (by decide) (by first | decide | (simp only [mSz] <;> omega)) ?_
  refine x_iconst (M := mX3_isCell) (pc := 9) (v := nI 1) dX3_isCell_9 (by decide) ?_
  first | with_reducible refine x_isubN (M := mX3_isCell) (pc := 10) dX3_isCell_10 (by omega) ?_ | refine x_isub (M := mX3_isCell) (pc := 10) dX3_isCell_10 ?_
  refine x_i2l (M := mX3_isCell) (pc := 11) dX3_isCell_11 ?_
  refine x_S3 (M := mX3_isCell) (pc := 12) (M' := mX3_in) q2949 kSX3_in dX3_isCell_12 (m_inB h x 0 (B 0 0 - 1) 0 _ (by decide) rfl (d - 1)) (fun v_ h hq_ => ?_)
  obtain ⟨hv_, rfl⟩ := hq_; cases hv_
  first | with_reducible refine x_ifB_eq (M := mX3_isCell) (pc := 15) 40 dX3_isCell_15 (by decide) (fun c15 => ?_) (fun c15 => ?_) | with_reducible refine x_if_eqN (M := mX3_isCell) (pc := 15) 40 dX3_isCell_15 (by decide) (by omega) (fun c15 => ?_) (fun c15 => ?_) | refine x_if_eq (M := mX3_isCell) (pc := 15) 40 dX3_isCell_15 (by decide) (fun c15 => ?_) (fun c15 => ?_)
  · refine x_iconst (M := mX3_isCell) (pc := 40) (v := nI 0) dX3_isCell_40 (by decide) ?_
    refine x_zret (M := mX3_isCell) (pc := 41) dX3_isCell_41 rfl (by first | with_reducible exact xz0 | with_reducible exact xz1 | with_reducible exact bI_01 _ | with_reducible assumption | assumption) (Nat.le_refl 0) (Nat.le_refl 0) ⟨congrArg Sum.inl ?_, rfl⟩
    exact (by first | exact vB1 (by simp [zCell, *]) | exact vB0 (by simp [zCell, *]))
  · refine x_iload_n (M := mX3_isCell) (pc := 18) dX3_isCell_18 rfl ?_
    refine x_i2l (M := mX3_isCell) (pc := 19) dX3_isCell_19 ?_
    refine x_lconst (M := mX3_isCell) (pc := 20) (v := 0) dX3_isCell_20 (by decide) ?_
    refine x_aload_n (M := mX3_isCell) (pc := 21) dX3_isCell_21 rfl ?_
    refine x_get (M := mX3_isCell) (pc := 22) kcX3 0 rfl q2835 dX3_isCell_22 hM.1 rfl ?_
    refine x_iconst (M := mX3_isCell) (pc := 25) (v := nI 1) dX3_isCell_25 (by decide) ?_
    refine xm_iald (M := mX3_isCell) (pc := 26) hM dX3_isCell_26 (by decide) (by first | decide | (simp only [mSz] <;> omega)) ?_
    refine x_iconst (M := mX3_isCell) (pc := 27) (v := nI 1) dX3_isCell_27 (by decide) ?_
    first | with_reducible refine x_isubN (M := mX3_isCell) (pc := 28) dX3_isCell_28 (by omega) ?_ | refine x_isub (M := mX3_isCell) (pc := 28) dX3_isCell_28 ?_
    refine x_i2l (M := mX3_isCell) (pc := 29) dX3_isCell_29 ?_
    refine x_S3 (M := mX3_isCell) (pc := 30) (M' := mX3_in) q2949 kSX3_in dX3_isCell_30 (m_inB h y 0 (B 0 1 - 1) 0 _ (by decide) rfl (d - 1)) (fun v_ h hq_ => ?_)
    obtain ⟨hv_, rfl⟩ := hq_; cases hv_
    first | with_reducible refine x_ifB_eq (M := mX3_isCell) (pc := 33) 40 dX3_isCell_33 (by decide) (fun c33 => ?_) (fun c33 => ?_) | with_reducible refine x_if_eqN (M := mX3_isCell) (pc := 33) 40 dX3_isCell_33 (by decide) (by omega) (fun c33 => ?_) (fun c33 => ?_) | refine x_if_eq (M := mX3_isCell) (pc := 33) 40 dX3_isCell_33 (by decide) (fun c33 => ?_) (fun c33 => ?_)
    · refine x_iconst (M := mX3_isCell) (pc := 40) (v := nI 0) dX3_isCell_40 (by decide) ?_
      refine x_zret (M := mX3_isCell) (pc := 41) dX3_isCell_41 rfl (by first | with_reducible exact xz0 | with_reducible exact xz1 | with_reducible exact bI_01 _ | with_reducible assumption | assumption) (Nat.le_refl 0) (Nat.le_refl 0) ⟨congrArg Sum.inl ?_, rfl⟩
      exact (by first | exact vB1 (by simp [zCell, *]) | exact vB0 (by simp [zCell, *]))
    · refine x_iconst (M := mX3_isCell) (pc := 36) (v := nI 1) dX3_isCell_36 (by decide) ?_
      refine x_goto (M := mX3_isCell) (pc := 37) 41 dX3_isCell_37 (by decide) ?_
      refine x_zret (M := mX3_isCell) (pc := 41) dX3_isCell_41 rfl (by first | with_reducible exact xz0 | with_reducible exact xz1 | with_reducible exact bI_01 _ | with_reducible assumption | assumption) (Nat.le_refl 0) (Nat.le_refl 0) ⟨congrArg Sum.inl ?_, rfl⟩
      exact (by first | exact vB1 (by simp [zCell, *]) | exact vB0 (by simp [zCell, *]))
theorem m_printOn (d a : Nat) (ha : a < 32) (nu tn : Int32) : MC g l mX3_printOn d [.int (nI a), .int nu, .int tn] m A I B wd (fun v I' B' wd' => v = some (.int (p_prC (B 0) a nu tn)) ∧ I' = I ∧ B' = va_up B 0 (p_prS (B 0) a nu tn) ∧ wd' = wd) := by
  intro h hM
  have hF : MF m A h h := MF.rf
  refine Ct.of [some (.ref m), some (.int (nI a)), some (.int nu), some (.int tn), none, none] (by decide +kernel) rfl (Nat.le_of_ble_eq_true rfl) rfl rfl ?_
  refine x_joinV 9 (p_prT nu tn) (fun J => ?_) ?_
  · refine x_iload_n (M := mX3_printOn) (pc := 0) dX3_printOn_0 rfl ?_
    refine x_if_ge (M := mX3_printOn) (pc := 1) 8 dX3_printOn_1 (by decide) (fun r_1 => ?_) (fun r_1 => ?_)
    · refine x_iload_n (M := mX3_printOn) (pc := 8) dX3_printOn_8 rfl ?_
      exact J _ (by first | (rw [p_prT, if_neg r_1]; done) | (rw [p_prT, if_pos r_1]; rfl) | (rw [p_prT, if_neg (by rw [Int32.not_lt]; exact r_1)]; done) | (rw [p_prT, if_pos (by rw [← Int32.not_le]; exact r_1)]; rfl))
    · refine x_iconst (M := mX3_printOn) (pc := 4) (v := nI 0) dX3_printOn_4 (by decide) ?_
      refine x_goto (M := mX3_printOn) (pc := 5) 9 dX3_printOn_5 (by decide) ?_
      exact J _ (by first | (rw [p_prT, if_neg r_1]; done) | (rw [p_prT, if_pos r_1]; rfl) | (rw [p_prT, if_neg (by rw [Int32.not_lt]; exact r_1)]; done) | (rw [p_prT, if_pos (by rw [← Int32.not_le]; exact r_1)]; rfl))
  refine x_istore4 (M := mX3_printOn) (pc := 9) dX3_printOn_9 ?_
  refine x_joinV 43 (p_prC (B 0) a nu tn) (fun J => ?_) ?_
  · refine x_aload_n (M := mX3_printOn) (pc := 11) dX3_printOn_11 rfl ?_
    refine x_get (M := mX3_printOn) (pc := 12) kcX3 0 rfl q2835 dX3_printOn_12 hM.1 rfl ?_
    refine x_bipush (M := mX3_printOn) (pc := 15) (v := nI 90) dX3_printOn_15 (by decide) ?_
    refine x_iload_n (M := mX3_printOn) (pc := 17) dX3_printOn_17 rfl ?_
    first | with_reducible refine x_iaddN (M := mX3_printOn) (pc := 18) dX3_printOn_18 ?_ | refine x_iadd (M := mX3_printOn) (pc := 18) dX3_printOn_18 ?_
    refine xm_iald (M := mX3_printOn) (pc := 19) hM dX3_printOn_19 (by decide) (by first | decide | (simp only [mSz] <;> omega)) ?_
    refine x_iload_n (M := mX3_printOn) (pc := 20) dX3_printOn_20 rfl ?_
    refine x_icmp_ne (M := mX3_printOn) (pc := 21) 38 dX3_printOn_21 (by decide) (fun r_2 => ?_) (fun r_2 => ?_)
    · refine x_iconst (M := mX3_printOn) (pc := 38) (v := nI 1) dX3_printOn_38 (by decide) ?_
      refine x_goto (M := mX3_printOn) (pc := 39) 43 dX3_printOn_39 (by decide) ?_
      exact J _ (by first | (rw [p_prC, if_pos (Or.inl r_2)]; rfl) | (rw [p_prC, if_pos (Or.inr r_3)]; rfl) | (rw [p_prC, if_neg (by rw [not_or]; exact ⟨fun z => z r_2, fun z => z r_3⟩)]; rfl))
    · refine x_aload_n (M := mX3_printOn) (pc := 24) dX3_printOn_24 rfl ?_
      refine x_get (M := mX3_printOn) (pc := 25) kcX3 0 rfl q2835 dX3_printOn_25 hM.1 rfl ?_
      refine x_bipush (M := mX3_printOn) (pc := 28) (v := nI 122) dX3_printOn_28 (by decide) ?_
      refine x_iload_n (M := mX3_printOn) (pc := 30) dX3_printOn_30 rfl ?_
      first | with_reducible refine x_iaddN (M := mX3_printOn) (pc := 31) dX3_printOn_31 ?_ | refine x_iadd (M := mX3_printOn) (pc := 31) dX3_printOn_31 ?_
      refine xm_iald (M := mX3_printOn) (pc := 32) hM dX3_printOn_32 (by decide) (by first | decide | (simp only [mSz] <;> omega)) ?_
      refine x_iload (M := mX3_printOn) (pc := 33) dX3_printOn_33 rfl ?_
      refine x_icmp_eq (M := mX3_printOn) (pc := 35) 42 dX3_printOn_35 (by decide) (fun r_3 => ?_) (fun r_3 => ?_)
      · refine x_iconst (M := mX3_printOn) (pc := 42) (v := nI 0) dX3_printOn_42 (by decide) ?_
        exact J _ (by first | (rw [p_prC, if_pos (Or.inl r_2)]; rfl) | (rw [p_prC, if_pos (Or.inr r_3)]; rfl) | (rw [p_prC, if_neg (by rw [not_or]; exact ⟨fun z => z r_2, fun z => z r_3⟩)]; rfl))
      · refine x_iconst (M := mX3_printOn) (pc := 38) (v := nI 1) dX3_printOn_38 (by decide) ?_
        refine x_goto (M := mX3_printOn) (pc := 39) 43 dX3_printOn_39 (by decide) ?_
        exact J _ (by first | (rw [p_prC, if_pos (Or.inl r_2)]; rfl) | (rw [p_prC, if_pos (Or.inr r_3)]; rfl) | (rw [p_prC, if_neg (by rw [not_or]; exact ⟨fun z => z r_2, fun z => z r_3⟩)]; rfl))
  refine x_istore5 (M := mX3_printOn) (pc := 43) dX3_printOn_43 ?_
  refine x_aload_n (M := mX3_printOn) (pc := 45) dX3_printOn_45 rfl ?_
  refine x_get (M := mX3_printOn) (pc := 46) kcX3 0 rfl q2835 dX3_printOn_46 hM.1 rfl ?_
  refine x_bipush (M := mX3_printOn) (pc := 49) (v := nI 90) dX3_printOn_49 (by decide) ?_
  refine x_iload_n (M := mX3_printOn) (pc := 51) dX3_printOn_51 rfl ?_
  first | with_reducible refine x_iaddN (M := mX3_printOn) (pc := 52) dX3_printOn_52 ?_ | refine x_iadd (M := mX3_printOn) (pc := 52) dX3_printOn_52 ?_
  refine x_iload_n (M := mX3_printOn) (pc := 53) dX3_printOn_53 rfl ?_
  refine xm_iast (M := mX3_printOn) (pc := 54) hM hF dX3_printOn_54 (by decide) (by first | decide | (simp only [mSz] <;> omega)) (fun h hM hF => ?_)
  refine x_aload_n (M := mX3_printOn) (pc := 55) dX3_printOn_55 rfl ?_
  refine x_get (M := mX3_printOn) (pc := 56) kcX3 0 rfl q2835 dX3_printOn_56 hM.1 rfl ?_
  refine x_bipush (M := mX3_printOn) (pc := 59) (v := nI 122) dX3_printOn_59 (by decide) ?_
  refine x_iload_n (M := mX3_printOn) (pc := 61) dX3_printOn_61 rfl ?_
  first | with_reducible refine x_iaddN (M := mX3_printOn) (pc := 62) dX3_printOn_62 ?_ | refine x_iadd (M := mX3_printOn) (pc := 62) dX3_printOn_62 ?_
  refine x_iload (M := mX3_printOn) (pc := 63) dX3_printOn_63 rfl ?_
  refine xm_iast (M := mX3_printOn) (pc := 65) hM hF dX3_printOn_65 (by decide) (by first | decide | (simp only [mSz] <;> omega)) (fun h hM hF => ?_)
  refine x_aload_n (M := mX3_printOn) (pc := 66) dX3_printOn_66 rfl ?_
  refine x_get (M := mX3_printOn) (pc := 67) kcX3 0 rfl q2835 dX3_printOn_67 hM.1 rfl ?_
  refine x_bipush (M := mX3_printOn) (pc := 70) (v := nI 87) dX3_printOn_70 (by decide) ?_
  refine x_dup2 (M := mX3_printOn) (pc := 72) dX3_printOn_72 ?_
  refine xm_iald (M := mX3_printOn) (pc := 73) hM dX3_printOn_73 (by decide) (by first | decide | (simp only [mSz] <;> omega)) ?_
  refine x_iload (M := mX3_printOn) (pc := 74) dX3_printOn_74 rfl ?_
  first | with_reducible refine x_iaddN (M := mX3_printOn) (pc := 76) dX3_printOn_76 ?_ | refine x_iadd (M := mX3_printOn) (pc := 76) dX3_printOn_76 ?_
  refine xm_iast (M := mX3_printOn) (pc := 77) hM hF dX3_printOn_77 (by decide) (by first | decide | (simp only [mSz] <;> omega)) (fun h hM hF => ?_)
  refine x_iload (M := mX3_printOn) (pc := 78) dX3_printOn_78 rfl ?_
  refine x_iret (M := mX3_printOn) (pc := 80) dX3_printOn_80 rfl (Nat.le_refl 0) (Nat.le_refl 0) ⟨_, _, _, _, rfl, ?_, hM, hF⟩
  refine ⟨rfl, rfl, ?_, rfl⟩
  funext j
  by_cases e : j = 0
  · subst e
    simp only [va_up_s]
    unfold p_prS
    congr 1
    simp only [upd]
    rw [if_neg (by omega), if_neg (by omega)]
  · simp only [va_up_n _ _ e]
theorem zCell_n {s : Row} (hW : WF s) {x y : Int32} (h : zCell s x y = true) : ∃ a b, x = nI a ∧ y = nI b ∧ a < zHi s ∧ b < zWi s := by
  have b := p_ok_b hW.1.2.2.2.2.1
  unfold zCell at h
  rw [Bool.and_eq_true, hW.1.1, hW.1.2.1, show (1 : Int32) = nI 1 from rfl, pk_sub (by omega), pk_sub (by omega)] at h
  obtain ⟨n1, e1, -, k1⟩ := bIn_n (a := 0) (by omega) (by omega) h.1
  obtain ⟨n2, e2, -, k2⟩ := bIn_n (a := 0) (by omega) (by omega) h.2
  exact ⟨n1, n2, e1, e2, by omega, by omega⟩
theorem cell_lt {a b c d : Nat} (h1 : a < c) (h2 : b < d) : d * a + b < c * d := by
  have : d * (a + 1) ≤ d * c := Nat.mul_le_mul_left d h1
  rw [Nat.mul_add, Nat.mul_one] at this
  rw [Nat.mul_comm c d]; omega
theorem m_print (d u : Nat) (hu : u ≤ 5) (hU : I 3 = nI u) (r : Bool) (hr : I 6 = bI r) (hd : 2 ≤ d) (hW : WF (B 0)) (x y z nu tn : Int32) : MC g l mX3_print d [.int x, .int y, .int z, .int nu, .int tn] m A I B wd (ACT r u I B wd (c_print (B 0) x y z nu tn)) := by
  intro h hM
  have hF : MF m A h h := MF.rf
  have hb := p_ok_b hW.1.2.2.2.2.1
  have hn := p_cans_le hW.1.2.2.2.2.1 hW.1.2.2.2.2.2
  have h2 : B 0 2 = nI (zNf (B 0)) := hW.1.2.2.1
  refine Ct.of [some (.ref m), some (.int x), some (.int y), some (.int z), some (.int nu), some (.int tn), none, none] (by decide +kernel) rfl (Nat.le_of_ble_eq_true rfl) rfl rfl ?_
  refine x_aload_n (M := mX3_print) (pc := 0) dX3_print_0 rfl ?_
  refine x_iload_n (M := mX3_print) (pc := 1) dX3_print_1 rfl ?_
  refine x_iload_n (M := mX3_print) (pc := 2) dX3_print_2 rfl ?_
  refine x_V2 (M := mX3_print) (pc := 3) (M' := mX3_isCell) q2988 kVX3_isCell dX3_print_3 (m_isCell (d - 1) x y (by omega) h hM) (hM.is) (fun v_ h hq_ => ?_)
  obtain ⟨hv_, rfl⟩ := hq_; cases hv_
  first | with_reducible refine x_ifB_eq (M := mX3_print) (pc := 6) 45 dX3_print_6 (by decide) (fun c6 => ?_) (fun c6 => ?_) | with_reducible refine x_if_eqN (M := mX3_print) (pc := 6) 45 dX3_print_6 (by decide) (by omega) (fun c6 => ?_) (fun c6 => ?_) | refine x_if_eq (M := mX3_print) (pc := 6) 45 dX3_print_6 (by decide) (fun c6 => ?_) (fun c6 => ?_)
  · refine x_iconst (M := mX3_print) (pc := 45) (v := (-1)) dX3_print_45 (by decide) ?_
    refine x_iret (M := mX3_print) (pc := 46) dX3_print_46 rfl (Nat.le_refl 0) (Nat.le_refl 0) ⟨_, _, _, _, rfl, ?_, hM, hF⟩
    exact act_err (by simp [c_print, *]) LF.rf
  refine x_iload_n (M := mX3_print) (pc := 9) dX3_print_9 rfl ?_
  refine x_i2l (M := mX3_print) (pc := 10) dX3_print_10 ?_
  refine x_lconst (M := mX3_print) (pc := 11) (v := 0) dX3_print_11 (by decide) ?_
  refine x_lconst (M := mX3_print) (pc := 12) (v := 1) dX3_print_12 (by decide) ?_
  refine x_S3 (M := mX3_print) (pc := 13) (M' := mX3_in) q2949 kSX3_in dX3_print_13 (m_inB h z 0 1 0 1 (by decide) (by decide) (d - 1)) (fun v_ h hq_ => ?_)
  obtain ⟨hv_, rfl⟩ := hq_; cases hv_
  first | with_reducible refine x_ifB_eq (M := mX3_print) (pc := 16) 45 dX3_print_16 (by decide) (fun c16 => ?_) (fun c16 => ?_) | with_reducible refine x_if_eqN (M := mX3_print) (pc := 16) 45 dX3_print_16 (by decide) (by omega) (fun c16 => ?_) (fun c16 => ?_) | refine x_if_eq (M := mX3_print) (pc := 16) 45 dX3_print_16 (by decide) (fun c16 => ?_) (fun c16 => ?_)
  · refine x_iconst (M := mX3_print) (pc := 45) (v := (-1)) dX3_print_45 (by decide) ?_
    refine x_iret (M := mX3_print) (pc := 46) dX3_print_46 rfl (Nat.le_refl 0) (Nat.le_refl 0) ⟨_, _, _, _, rfl, ?_, hM, hF⟩
    exact act_err (by simp [c_print, *]) LF.rf
  refine x_iload (M := mX3_print) (pc := 19) dX3_print_19 rfl ?_
  refine x_i2l (M := mX3_print) (pc := 21) dX3_print_21 ?_
  refine x_ldc2 (M := mX3_print) (pc := 22) dX3_print_22 q2992 ?_
  refine x_ldc2 (M := mX3_print) (pc := 25) dX3_print_25 q2993 ?_
  refine x_S3 (M := mX3_print) (pc := 28) (M' := mX3_in) q2949 kSX3_in dX3_print_28 (m_inB h nu (-1) 31 (-1) 31 (by decide) (by decide) (d - 1)) (fun v_ h hq_ => ?_)
  obtain ⟨hv_, rfl⟩ := hq_; cases hv_
  first | with_reducible refine x_ifB_eq (M := mX3_print) (pc := 31) 45 dX3_print_31 (by decide) (fun c31 => ?_) (fun c31 => ?_) | with_reducible refine x_if_eqN (M := mX3_print) (pc := 31) 45 dX3_print_31 (by decide) (by omega) (fun c31 => ?_) (fun c31 => ?_) | refine x_if_eq (M := mX3_print) (pc := 31) 45 dX3_print_31 (by decide) (fun c31 => ?_) (fun c31 => ?_)
  · refine x_iconst (M := mX3_print) (pc := 45) (v := (-1)) dX3_print_45 (by decide) ?_
    refine x_iret (M := mX3_print) (pc := 46) dX3_print_46 rfl (Nat.le_refl 0) (Nat.le_refl 0) ⟨_, _, _, _, rfl, ?_, hM, hF⟩
    exact act_err (by simp [c_print, *]) LF.rf
  refine x_iload (M := mX3_print) (pc := 34) dX3_print_34 rfl ?_
  refine x_i2l (M := mX3_print) (pc := 36) dX3_print_36 ?_
  refine x_lconst (M := mX3_print) (pc := 37) (v := 0) dX3_print_37 (by decide) ?_
  refine x_lconst (M := mX3_print) (pc := 38) (v := 1) dX3_print_38 (by decide) ?_
  refine x_S3 (M := mX3_print) (pc := 39) (M' := mX3_in) q2949 kSX3_in dX3_print_39 (m_inB h tn 0 1 0 1 (by decide) (by decide) (d - 1)) (fun v_ h hq_ => ?_)
  obtain ⟨hv_, rfl⟩ := hq_; cases hv_
  first | with_reducible refine x_ifB_ne (M := mX3_print) (pc := 42) 47 dX3_print_42 (by decide) (fun c42 => ?_) (fun c42 => ?_) | with_reducible refine x_if_neN (M := mX3_print) (pc := 42) 47 dX3_print_42 (by decide) (by omega) (fun c42 => ?_) (fun c42 => ?_) | refine x_if_ne (M := mX3_print) (pc := 42) 47 dX3_print_42 (by decide) (fun c42 => ?_) (fun c42 => ?_)
  rotate_left
  · refine x_iconst (M := mX3_print) (pc := 45) (v := (-1)) dX3_print_45 (by decide) ?_
    refine x_iret (M := mX3_print) (pc := 46) dX3_print_46 rfl (Nat.le_refl 0) (Nat.le_refl 0) ⟨_, _, _, _, rfl, ?_, hM, hF⟩
    exact act_err (by simp [c_print, *]) LF.rf
  refine x_aload_n (M := mX3_print) (pc := 47) dX3_print_47 rfl ?_
  refine x_get (M := mX3_print) (pc := 48) kcX3 0 rfl q2835 dX3_print_48 hM.1 rfl ?_
  refine x_iconst (M := mX3_print) (pc := 51) (v := nI 2) dX3_print_51 (by decide) ?_
  refine xm_ialdV (M := mX3_print) (pc := 52) hM dX3_print_52 (h2) (by decide) (by first | decide | (simp only [mSz] <;> omega)) ?_
  first | with_reducible refine x_if_gtN (M := mX3_print) (pc := 53) 63 dX3_print_53 (by decide) (by omega) (fun c53 => ?_) (fun c53 => ?_) | refine x_if_gt (M := mX3_print) (pc := 53) 63 dX3_print_53 (by decide) (fun c53 => ?_) (fun c53 => ?_)
  · refine x_bipush (M := mX3_print) (pc := 63) (v := (-2)) dX3_print_63 (by decide) ?_
    refine x_iret (M := mX3_print) (pc := 65) dX3_print_65 rfl (Nat.le_refl 0) (Nat.le_refl 0) ⟨_, _, _, _, rfl, ?_, hM, hF⟩
    exact act_err (by simp [c_print, zHeld, *]) LF.rf
  refine x_aload_n (M := mX3_print) (pc := 56) dX3_print_56 rfl ?_
  refine x_V0 (M := mX3_print) (pc := 57) (M' := mX3_isHeld) q2972 kVX3_isHeld dX3_print_57 (m_isHeld (d - 1) h hM) (hM.is) (fun v_ h hq_ => ?_)
  obtain ⟨v_, I_, B_, wd_, hv_, hQ, hM_, hF_⟩ := hq_
  cases hv_
  replace hF := hF.tr hF_
  replace hM := hM_
  clear hM_ hF_
  obtain ⟨e1_, e2_, e3_, e4_⟩ := hQ; rw [e2_, e3_, e4_] at hM; subst e1_; clear e2_ e3_ e4_
  first | with_reducible refine x_ifB_eq (M := mX3_print) (pc := 60) 66 dX3_print_60 (by decide) (fun c60 => ?_) (fun c60 => ?_) | with_reducible refine x_if_eqN (M := mX3_print) (pc := 60) 66 dX3_print_60 (by decide) (by omega) (fun c60 => ?_) (fun c60 => ?_) | refine x_if_eq (M := mX3_print) (pc := 60) 66 dX3_print_60 (by decide) (fun c60 => ?_) (fun c60 => ?_)
  rotate_left
  · refine x_bipush (M := mX3_print) (pc := 63) (v := (-2)) dX3_print_63 (by decide) ?_
    refine x_iret (M := mX3_print) (pc := 65) dX3_print_65 rfl (Nat.le_refl 0) (Nat.le_refl 0) ⟨_, _, _, _, rfl, ?_, hM, hF⟩
    exact act_err (by simp [c_print, zHeld, *]) LF.rf
  skip
  obtain ⟨a, b, rfl, rfl, ha, hb'⟩ := zCell_n hW c6
  obtain ⟨c, rfl, -, hc⟩ := bIn_n (a := 0) (b := 1) (by omega) (by omega) c16
  have hlt := cell_lt ha hb'
  have e1 : (nI a).toNatClampNeg = a := nI_clamp (by omega)
  have e2 : (nI b).toNatClampNeg = b := nI_clamp (by omega)
  have e3 : (nI c).toNatClampNeg = c := nI_clamp (by omega)
  have hat : zAt (B 0) (nI a) (nI b) (nI c) = 2 * (zWi (B 0) * a + b) + c := by rw [zAt, e1, e2, e3]
  refine x_aload_n (M := mX3_print) (pc := 66) dX3_print_66 rfl ?_
  refine x_V0 (M := mX3_print) (pc := 67) (M' := mX3_act) q2936 kVX3_act dX3_print_67 (m_actR (d - 1) u hu hU r hr (by omega) h hM) (hM.is) (fun v_ h hq_ => ?_)
  obtain ⟨v_, I_, B_, wd_, hv_, hQ, hM_, hF_⟩ := hq_
  cases hv_
  replace hF := hF.tr hF_
  replace hM := hM_
  clear hM_ hF_
  obtain ⟨rfl, hR, hw⟩ := hQ; have hb0 := hR.2.1 0 (by omega)
  refine x_iconst (M := mX3_print) (pc := 70) (v := nI 2) dX3_print_70 (by decide) ?_
  refine x_aload_n (M := mX3_print) (pc := 71) dX3_print_71 rfl ?_
  refine x_get (M := mX3_print) (pc := 72) kcX3 0 rfl q2835 dX3_print_72 hM.1 rfl ?_
  refine x_iconst (M := mX3_print) (pc := 75) (v := nI 1) dX3_print_75 (by decide) ?_
  refine xm_ialdV (M := mX3_print) (pc := 76) hM dX3_print_76 ((by rw [hb0]; exact hW.1.2.1 : _ = nI (zWi (B 0)))) (by decide) (by first | decide | (simp only [mSz] <;> omega)) ?_
  refine x_iload_n (M := mX3_print) (pc := 77) dX3_print_77 rfl ?_
  first | with_reducible refine x_imulN (M := mX3_print) (pc := 78) dX3_print_78 ?_ | refine x_imul (M := mX3_print) (pc := 78) dX3_print_78 ?_
  refine x_iload_n (M := mX3_print) (pc := 79) dX3_print_79 rfl ?_
  first | with_reducible refine x_iaddN (M := mX3_print) (pc := 80) dX3_print_80 ?_ | refine x_iadd (M := mX3_print) (pc := 80) dX3_print_80 ?_
  first | with_reducible refine x_imulN (M := mX3_print) (pc := 81) dX3_print_81 ?_ | refine x_imul (M := mX3_print) (pc := 81) dX3_print_81 ?_
  refine x_iload_n (M := mX3_print) (pc := 82) dX3_print_82 rfl ?_
  first | with_reducible refine x_iaddN (M := mX3_print) (pc := 83) dX3_print_83 ?_ | refine x_iadd (M := mX3_print) (pc := 83) dX3_print_83 ?_
  refine x_istore6 (M := mX3_print) (pc := 84) dX3_print_84 ?_
  refine x_aload_n (M := mX3_print) (pc := 86) dX3_print_86 rfl ?_
  refine x_get (M := mX3_print) (pc := 87) kcX3 0 rfl q2835 dX3_print_87 hM.1 rfl ?_
  refine x_bipush (M := mX3_print) (pc := 90) (v := nI 90) dX3_print_90 (by decide) ?_
  refine x_iload (M := mX3_print) (pc := 92) dX3_print_92 rfl ?_
  first | with_reducible refine x_iaddN (M := mX3_print) (pc := 94) dX3_print_94 ?_ | refine x_iadd (M := mX3_print) (pc := 94) dX3_print_94 ?_
  refine xm_ialdV (M := mX3_print) (pc := 95) hM dX3_print_95 ((by rw [hb0] : _ = B 0 (90 + (2 * (zWi (B 0) * a + b) + c)))) (by decide) (by first | decide | (simp only [mSz] <;> omega)) ?_
  refine x_istore7 (M := mX3_print) (pc := 96) dX3_print_96 ?_
  refine x_aload_n (M := mX3_print) (pc := 98) dX3_print_98 rfl ?_
  refine x_iload (M := mX3_print) (pc := 99) dX3_print_99 rfl ?_
  refine x_iload (M := mX3_print) (pc := 101) dX3_print_101 rfl ?_
  refine x_iload (M := mX3_print) (pc := 103) dX3_print_103 rfl ?_
  refine x_V3 (M := mX3_print) (pc := 105) (M' := mX3_printOn) q2994 kVX3_printOn dX3_print_105 (m_printOn (d - 1) (2 * (zWi (B 0) * a + b) + c) (by omega) nu tn h hM) (hM.is) (fun v_ h hq_ => ?_)
  obtain ⟨v_, I_, B_, wd_, hv_, hQ, hM_, hF_⟩ := hq_
  cases hv_
  replace hF := hF.tr hF_
  replace hM := hM_
  clear hM_ hF_
  obtain ⟨e1_, e2_, e3_, e4_⟩ := hQ; rw [e2_, e3_, e4_] at hM; subst e1_; clear e2_ e3_ e4_
  refine x_pop (M := mX3_print) (pc := 108) dX3_print_108 ?_
  refine x_joinV 121 (zNone (B 0 (90 + (2 * (zWi (B 0) * a + b) + c)))) (fun J => ?_) ?_
  · refine x_iload (M := mX3_print) (pc := 109) dX3_print_109 rfl ?_
    refine x_if_ge (M := mX3_print) (pc := 111) 119 dX3_print_111 (by decide) (fun r_1 => ?_) (fun r_1 => ?_)
    · refine x_iload (M := mX3_print) (pc := 119) dX3_print_119 rfl ?_
      exact J _ (by first | (rw [zNone, if_neg (by rw [Int32.not_lt]; exact r_1)]) | (rw [zNone, if_pos (by rw [← Int32.not_le]; exact r_1)]))
    · refine x_bipush (M := mX3_print) (pc := 114) (v := (-9)) dX3_print_114 (by decide) ?_
      refine x_goto (M := mX3_print) (pc := 116) 121 dX3_print_116 (by decide) ?_
      exact J _ (by first | (rw [zNone, if_neg (by rw [Int32.not_lt]; exact r_1)]) | (rw [zNone, if_pos (by rw [← Int32.not_le]; exact r_1)]))
  refine x_iret (M := mX3_print) (pc := 121) dX3_print_121 rfl (Nat.le_refl 0) (Nat.le_refl 0) ⟨_, _, _, _, rfl, ?_, hM, hF⟩
  refine act_ok (s' := p_prS (B 0) (2 * (zWi (B 0) * a + b) + c) nu tn) ?_ LF.rf hR hw (by simp only [va_up_s, hb0]) (fun j hj => by simp only [va_up_n _ _ hj])
  have e5 : zHeld (B 0) = false := c60
  unfold c_print
  rw [if_neg (by simp [c6, c16, c31, c42]), if_neg (by rw [e5]; simp; omega), hat]
end MODELB
