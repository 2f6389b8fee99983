section MODELI
set_option maxRecDepth 100000
def p_opn (O : Nat → Nat) (li x : Nat) : Nat := (O (x / li) + 1) / 2
def p_ahead (s : Row) (a b : Nat) : Bool := decide (zN s (39 + 4 * b) < zN s (39 + 4 * a) ∨ (zN s (39 + 4 * a) = zN s (39 + 4 * b) ∧ (zN s (38 + 4 * a) < zN s (38 + 4 * b) ∨ (zN s (38 + 4 * a) = zN s (38 + 4 * b) ∧ a < b))))
def p_whC (O : Nat → Nat) (li all f ln k : Nat) : Bool := decide (f < k ∧ p_opn O li k ≠ p_opn O li (k - 1)) && (decide (k + ln ≤ all) && decide (p_opn O li k = p_opn O li (k + ln - 1)))
def p_whF (O : Nat → Nat) (li all f ln : Nat) : Nat := fstN (p_whC O li all f ln) (all - f) f
def p_whole (O : Nat → Nat) (li all f ln : Nat) : Option Nat := if f + ln ≤ all ∧ p_opn O li f = p_opn O li (f + ln - 1) then some f else if p_whF O li all f ln < all then some (p_whF O li all f ln) else none
/-- the open pages lie in the reference's arrays: om of them, by O -/
def NT (I : Nat → Int32) (B : Nat → Nat → Int32) (s : Row) (O : Nat → Nat) (om : Nat) : Prop := I 28 = nI om ∧ (∀ k, k < om → B 29 k = nI (O k)) ∧ (∀ k, O k < 32) ∧ om ≤ 32 ∧ B 0 = s
variable {g : xG} {l : Launch} {m : Nat} {A : Nat → Nat} {I : Nat → Int32} {B : Nat → Nat → Int32} {wd : Int64}
theorem p_opn_lt {O : Nat → Nat} (h : ∀ k, O k < 32) (li x : Nat) : p_opn O li x < 17 := by
  have := h (x / li); unfold p_opn; omega
theorem m_openingOf (d : Nat) (s : Row) (hW : WF s) (O : Nat → Nat) (om : Nat) (hN : NT I B s O om) (x : Nat) (hx : x < om * zN s 11) : MCr g l mX3_openingOf d [.int (nI x)] m A I B wd (some (.int (nI (p_opn O (zN s 11) x)))) := by
  intro h hM
  obtain ⟨h28, h29, hO, hom, hB0⟩ := hN
  obtain ⟨h11, h11a, h11b⟩ := hW.2.2.2.2.2.1
  have hdv : x / zN s 11 < om := (Nat.div_lt_iff_lt_mul (by omega)).mpr hx
  have hOx := hO (x / zN s 11)
  have hxx : x < 2 ^ 31 := by
    have : om * zN s 11 ≤ 32 * 9 := Nat.mul_le_mul hom h11b
    omega
  refine Ct.of [some (.ref m), some (.int (nI x))] (by decide +kernel) rfl (Nat.le_of_ble_eq_true rfl) rfl rfl ?_
  refine x_aload_n (M := mX3_openingOf) (pc := 0) dX3_openingOf_0 rfl ?_
  refine x_get (M := mX3_openingOf) (pc := 1) kcX3 29 rfl q2864 dX3_openingOf_1 hM.1 rfl ?_
  refine x_iload_n (M := mX3_openingOf) (pc := 4) dX3_openingOf_4 rfl ?_
  refine x_aload_n (M := mX3_openingOf) (pc := 5) dX3_openingOf_5 rfl ?_
  refine x_get (M := mX3_openingOf) (pc := 6) kcX3 0 rfl q2835 dX3_openingOf_6 hM.1 rfl ?_
  refine x_bipush (M := mX3_openingOf) (pc := 9) (v := nI 11) dX3_openingOf_9 (by decide) ?_
  refine xm_ialdV (M := mX3_openingOf) (pc := 11) hM dX3_openingOf_11 ((by rw [hB0]; exact h11 : _ = nI (zN s 11))) (by decide) (by first | decide | (simp only [mSz] <;> omega)) ?_
  first | with_reducible refine x_idivN (M := mX3_openingOf) (pc := 12) dX3_openingOf_12 (by omega) (by omega) (by omega) ?_ | refine x_idiv (M := mX3_openingOf) (pc := 12) dX3_openingOf_12 (by first | decide | assumption) ?_
  refine xm_ialdV (M := mX3_openingOf) (pc := 13) hM dX3_openingOf_13 (h29 _ hdv) (by decide) (by first | decide | (simp only [mSz] <;> omega)) ?_
  refine x_iconst (M := mX3_openingOf) (pc := 14) (v := nI 1) dX3_openingOf_14 (by decide) ?_
  first | with_reducible refine x_iaddN (M := mX3_openingOf) (pc := 15) dX3_openingOf_15 ?_ | refine x_iadd (M := mX3_openingOf) (pc := 15) dX3_openingOf_15 ?_
  refine x_iconst (M := mX3_openingOf) (pc := 16) (v := nI 2) dX3_openingOf_16 (by decide) ?_
  first | with_reducible refine x_idivN (M := mX3_openingOf) (pc := 17) dX3_openingOf_17 (by omega) (by omega) (by omega) ?_ | refine x_idiv (M := mX3_openingOf) (pc := 17) dX3_openingOf_17 (by first | decide | assumption) ?_
  refine x_iret (M := mX3_openingOf) (pc := 18) dX3_openingOf_18 rfl (Nat.le_refl 0) (Nat.le_refl 0) ⟨congrArg Sum.inl ?_, rfl⟩
  rfl
theorem m_comesAhead (d : Nat) (s : Row) (hW : WF s) (hB0 : B 0 = s) (a b : Nat) (ha : a < zN s 37) (hb : b < zN s 37) : MCr g l mX3_comesAhead d [.int (nI a), .int (nI b)] m A I B wd (some (.int (bI (p_ahead s a b)))) := by
  intro h hM
  obtain ⟨h37, h37b⟩ := hW.2.2.2.2.2.2.2.2.1
  obtain ⟨⟨a0, a0b⟩, ⟨a1, a1b⟩, -⟩ := hW.2.2.2.2.2.2.2.2.2.1 a ha
  obtain ⟨⟨b0, b0b⟩, ⟨b1, b1b⟩, -⟩ := hW.2.2.2.2.2.2.2.2.2.1 b hb
  have va0 : B 0 (38 + 4 * a) = nI (zN s (38 + 4 * a)) := by rw [hB0]; exact a0
  have vb0 : B 0 (38 + 4 * b) = nI (zN s (38 + 4 * b)) := by rw [hB0]; exact b0
  have va1 : B 0 (38 + 4 * a + 1) = nI (zN s (39 + 4 * a)) := by rw [hB0, show 38 + 4 * a + 1 = 39 + 4 * a by omega]; exact a1
  have vb1 : B 0 (38 + 4 * b + 1) = nI (zN s (39 + 4 * b)) := by rw [hB0, show 38 + 4 * b + 1 = 39 + 4 * b by omega]; exact b1
  refine Ct.of [some (.ref m), some (.int (nI a)), some (.int (nI b)), none, none] (by decide +kernel) rfl (Nat.le_of_ble_eq_true rfl) rfl rfl ?_
  refine x_bipush (M := mX3_comesAhead) (pc := 0) (v := nI 38) dX3_comesAhead_0 (by decide) ?_
  refine x_iconst (M := mX3_comesAhead) (pc := 2) (v := nI 4) dX3_comesAhead_2 (by decide) ?_
  refine x_iload_n (M := mX3_comesAhead) (pc := 3) dX3_comesAhead_3 rfl ?_
  first | with_reducible refine x_imulN (M := mX3_comesAhead) (pc := 4) dX3_comesAhead_4 ?_ | refine x_imul (M := mX3_comesAhead) (pc := 4) dX3_comesAhead_4 ?_
  first | with_reducible refine x_iaddN (M := mX3_comesAhead) (pc := 5) dX3_comesAhead_5 ?_ | refine x_iadd (M := mX3_comesAhead) (pc := 5) dX3_comesAhead_5 ?_
  refine x_istore3 (M := mX3_comesAhead) (pc := 6) dX3_comesAhead_6 ?_
  refine x_bipush (M := mX3_comesAhead) (pc := 7) (v := nI 38) dX3_comesAhead_7 (by decide) ?_
  refine x_iconst (M := mX3_comesAhead) (pc := 9) (v := nI 4) dX3_comesAhead_9 (by decide) ?_
  refine x_iload_n (M := mX3_comesAhead) (pc := 10) dX3_comesAhead_10 rfl ?_
  first | with_reducible refine x_imulN (M := mX3_comesAhead) (pc := 11) dX3_comesAhead_11 ?_ | refine x_imul (M := mX3_comesAhead) (pc := 11) dX3_comesAhead_11 ?_
  first | with_reducible refine x_iaddN (M := mX3_comesAhead) (pc := 12) dX3_comesAhead_12 ?_ | refine x_iadd (M := mX3_comesAhead) (pc := 12) dX3_comesAhead_12 ?_
  refine x_istore4 (M := mX3_comesAhead) (pc := 13) dX3_comesAhead_13 ?_
  refine x_aload_n (M := mX3_comesAhead) (pc := 15) dX3_comesAhead_15 rfl ?_
  refine x_get (M := mX3_comesAhead) (pc := 16) kcX3 0 rfl q2835 dX3_comesAhead_16 hM.1 rfl ?_
  refine x_iload_n (M := mX3_comesAhead) (pc := 19) dX3_comesAhead_19 rfl ?_
  refine x_iconst (M := mX3_comesAhead) (pc := 20) (v := nI 1) dX3_comesAhead_20 (by decide) ?_
  first | with_reducible refine x_iaddN (M := mX3_comesAhead) (pc := 21) dX3_comesAhead_21 ?_ | refine x_iadd (M := mX3_comesAhead) (pc := 21) dX3_comesAhead_21 ?_
  refine xm_ialdV (M := mX3_comesAhead) (pc := 22) hM dX3_comesAhead_22 (va1) (by decide) (by first | decide | (simp only [mSz] <;> omega)) ?_
  refine x_aload_n (M := mX3_comesAhead) (pc := 23) dX3_comesAhead_23 rfl ?_
  refine x_get (M := mX3_comesAhead) (pc := 24) kcX3 0 rfl q2835 dX3_comesAhead_24 hM.1 rfl ?_
  refine x_iload (M := mX3_comesAhead) (pc := 27) dX3_comesAhead_27 rfl ?_
  refine x_iconst (M := mX3_comesAhead) (pc := 29) (v := nI 1) dX3_comesAhead_29 (by decide) ?_
  first | with_reducible refine x_iaddN (M := mX3_comesAhead) (pc := 30) dX3_comesAhead_30 ?_ | refine x_iadd (M := mX3_comesAhead) (pc := 30) dX3_comesAhead_30 ?_
  refine xm_ialdV (M := mX3_comesAhead) (pc := 31) hM dX3_comesAhead_31 (vb1) (by decide) (by first | decide | (simp only [mSz] <;> omega)) ?_
  first | with_reducible refine x_icmp_eqN (M := mX3_comesAhead) (pc := 32) 63 dX3_comesAhead_32 (by decide) (by omega) (by omega) (fun c32 => ?_) (fun c32 => ?_) | refine x_icmp_eq (M := mX3_comesAhead) (pc := 32) 63 dX3_comesAhead_32 (by decide) (fun c32 => ?_) (fun c32 => ?_)
  · refine x_aload_n (M := mX3_comesAhead) (pc := 63) dX3_comesAhead_63 rfl ?_
    refine x_get (M := mX3_comesAhead) (pc := 64) kcX3 0 rfl q2835 dX3_comesAhead_64 hM.1 rfl ?_
    refine x_iload_n (M := mX3_comesAhead) (pc := 67) dX3_comesAhead_67 rfl ?_
    refine xm_ialdV (M := mX3_comesAhead) (pc := 68) hM dX3_comesAhead_68 (va0) (by decide) (by first | decide | (simp only [mSz] <;> omega)) ?_
    refine x_aload_n (M := mX3_comesAhead) (pc := 69) dX3_comesAhead_69 rfl ?_
    refine x_get (M := mX3_comesAhead) (pc := 70) kcX3 0 rfl q2835 dX3_comesAhead_70 hM.1 rfl ?_
    refine x_iload (M := mX3_comesAhead) (pc := 73) dX3_comesAhead_73 rfl ?_
    refine xm_ialdV (M := mX3_comesAhead) (pc := 75) hM dX3_comesAhead_75 (vb0) (by decide) (by first | decide | (simp only [mSz] <;> omega)) ?_
    first | with_reducible refine x_icmp_eqN (M := mX3_comesAhead) (pc := 76) 103 dX3_comesAhead_76 (by decide) (by omega) (by omega) (fun c76 => ?_) (fun c76 => ?_) | refine x_icmp_eq (M := mX3_comesAhead) (pc := 76) 103 dX3_comesAhead_76 (by decide) (fun c76 => ?_) (fun c76 => ?_)
    · refine x_iload_n (M := mX3_comesAhead) (pc := 103) dX3_comesAhead_103 rfl ?_
      refine x_iload_n (M := mX3_comesAhead) (pc := 104) dX3_comesAhead_104 rfl ?_
      first | with_reducible refine x_icmp_geN (M := mX3_comesAhead) (pc := 105) 112 dX3_comesAhead_105 (by decide) (by omega) (by omega) (fun c105 => ?_) (fun c105 => ?_) | refine x_icmp_ge (M := mX3_comesAhead) (pc := 105) 112 dX3_comesAhead_105 (by decide) (fun c105 => ?_) (fun c105 => ?_)
      · refine x_iconst (M := mX3_comesAhead) (pc := 112) (v := nI 0) dX3_comesAhead_112 (by decide) ?_
        refine x_zret (M := mX3_comesAhead) (pc := 113) dX3_comesAhead_113 rfl (by first | with_reducible exact xz0 | with_reducible exact xz1 | with_reducible exact bI_01 _ | with_reducible assumption | assumption) (Nat.le_refl 0) (Nat.le_refl 0) ⟨congrArg Sum.inl ?_, rfl⟩
        first | exact vB1 (decide_eq_true (by omega)) | exact vB0 (decide_eq_false (by omega))
      · refine x_iconst (M := mX3_comesAhead) (pc := 108) (v := nI 1) dX3_comesAhead_108 (by decide) ?_
        refine x_goto (M := mX3_comesAhead) (pc := 109) 113 dX3_comesAhead_109 (by decide) ?_
        refine x_zret (M := mX3_comesAhead) (pc := 113) dX3_comesAhead_113 rfl (by first | with_reducible exact xz0 | with_reducible exact xz1 | with_reducible exact bI_01 _ | with_reducible assumption | assumption) (Nat.le_refl 0) (Nat.le_refl 0) ⟨congrArg Sum.inl ?_, rfl⟩
        first | exact vB1 (decide_eq_true (by omega)) | exact vB0 (decide_eq_false (by omega))
    · refine x_aload_n (M := mX3_comesAhead) (pc := 79) dX3_comesAhead_79 rfl ?_
      refine x_get (M := mX3_comesAhead) (pc := 80) kcX3 0 rfl q2835 dX3_comesAhead_80 hM.1 rfl ?_
      refine x_iload_n (M := mX3_comesAhead) (pc := 83) dX3_comesAhead_83 rfl ?_
      refine xm_ialdV (M := mX3_comesAhead) (pc := 84) hM dX3_comesAhead_84 (va0) (by decide) (by first | decide | (simp only [mSz] <;> omega)) ?_
      refine x_aload_n (M := mX3_comesAhead) (pc := 85) dX3_comesAhead_85 rfl ?_
      refine x_get (M := mX3_comesAhead) (pc := 86) kcX3 0 rfl q2835 dX3_comesAhead_86 hM.1 rfl ?_
      refine x_iload (M := mX3_comesAhead) (pc := 89) dX3_comesAhead_89 rfl ?_
      refine xm_ialdV (M := mX3_comesAhead) (pc := 91) hM dX3_comesAhead_91 (vb0) (by decide) (by first | decide | (simp only [mSz] <;> omega)) ?_
      first | with_reducible refine x_icmp_geN (M := mX3_comesAhead) (pc := 92) 99 dX3_comesAhead_92 (by decide) (by omega) (by omega) (fun c92 => ?_) (fun c92 => ?_) | refine x_icmp_ge (M := mX3_comesAhead) (pc := 92) 99 dX3_comesAhead_92 (by decide) (fun c92 => ?_) (fun c92 => ?_)
      · refine x_iconst (M := mX3_comesAhead) (pc := 99) (v := nI 0) dX3_comesAhead_99 (by decide) ?_
        refine x_goto (M := mX3_comesAhead) (pc := 100) 113 dX3_comesAhead_100 (by decide) ?_
        refine x_zret (M := mX3_comesAhead) (pc := 113) dX3_comesAhead_113 rfl (by first | with_reducible exact xz0 | with_reducible exact xz1 | with_reducible exact bI_01 _ | with_reducible assumption | assumption) (Nat.le_refl 0) (Nat.le_refl 0) ⟨congrArg Sum.inl ?_, rfl⟩
        first | exact vB1 (decide_eq_true (by omega)) | exact vB0 (decide_eq_false (by omega))
      · refine x_iconst (M := mX3_comesAhead) (pc := 95) (v := nI 1) dX3_comesAhead_95 (by decide) ?_
        refine x_goto (M := mX3_comesAhead) (pc := 96) 113 dX3_comesAhead_96 (by decide) ?_
        refine x_zret (M := mX3_comesAhead) (pc := 113) dX3_comesAhead_113 rfl (by first | with_reducible exact xz0 | with_reducible exact xz1 | with_reducible exact bI_01 _ | with_reducible assumption | assumption) (Nat.le_refl 0) (Nat.le_refl 0) ⟨congrArg Sum.inl ?_, rfl⟩
        first | exact vB1 (decide_eq_true (by omega)) | exact vB0 (decide_eq_false (by omega))
  · refine x_aload_n (M := mX3_comesAhead) (pc := 35) dX3_comesAhead_35 rfl ?_
    refine x_get (M := mX3_comesAhead) (pc := 36) kcX3 0 rfl q2835 dX3_comesAhead_36 hM.1 rfl ?_
    refine x_iload_n (M := mX3_comesAhead) (pc := 39) dX3_comesAhead_39 rfl ?_
    refine x_iconst (M := mX3_comesAhead) (pc := 40) (v := nI 1) dX3_comesAhead_40 (by decide) ?_
    first | with_reducible refine x_iaddN (M := mX3_comesAhead) (pc := 41) dX3_comesAhead_41 ?_ | refine x_iadd (M := mX3_comesAhead) (pc := 41) dX3_comesAhead_41 ?_
    refine xm_ialdV (M := mX3_comesAhead) (pc := 42) hM dX3_comesAhead_42 (va1) (by decide) (by first | decide | (simp only [mSz] <;> omega)) ?_
    refine x_aload_n (M := mX3_comesAhead) (pc := 43) dX3_comesAhead_43 rfl ?_
    refine x_get (M := mX3_comesAhead) (pc := 44) kcX3 0 rfl q2835 dX3_comesAhead_44 hM.1 rfl ?_
    refine x_iload (M := mX3_comesAhead) (pc := 47) dX3_comesAhead_47 rfl ?_
    refine x_iconst (M := mX3_comesAhead) (pc := 49) (v := nI 1) dX3_comesAhead_49 (by decide) ?_
    first | with_reducible refine x_iaddN (M := mX3_comesAhead) (pc := 50) dX3_comesAhead_50 ?_ | refine x_iadd (M := mX3_comesAhead) (pc := 50) dX3_comesAhead_50 ?_
    refine xm_ialdV (M := mX3_comesAhead) (pc := 51) hM dX3_comesAhead_51 (vb1) (by decide) (by first | decide | (simp only [mSz] <;> omega)) ?_
    first | with_reducible refine x_icmp_leN (M := mX3_comesAhead) (pc := 52) 59 dX3_comesAhead_52 (by decide) (by omega) (by omega) (fun c52 => ?_) (fun c52 => ?_) | refine x_icmp_le (M := mX3_comesAhead) (pc := 52) 59 dX3_comesAhead_52 (by decide) (fun c52 => ?_) (fun c52 => ?_)
    · refine x_iconst (M := mX3_comesAhead) (pc := 59) (v := nI 0) dX3_comesAhead_59 (by decide) ?_
      refine x_goto (M := mX3_comesAhead) (pc := 60) 113 dX3_comesAhead_60 (by decide) ?_
      refine x_zret (M := mX3_comesAhead) (pc := 113) dX3_comesAhead_113 rfl (by first | with_reducible exact xz0 | with_reducible exact xz1 | with_reducible exact bI_01 _ | with_reducible assumption | assumption) (Nat.le_refl 0) (Nat.le_refl 0) ⟨congrArg Sum.inl ?_, rfl⟩
      first | exact vB1 (decide_eq_true (by omega)) | exact vB0 (decide_eq_false (by omega))
    · refine x_iconst (M := mX3_comesAhead) (pc := 55) (v := nI 1) dX3_comesAhead_55 (by decide) ?_
      refine x_goto (M := mX3_comesAhead) (pc := 56) 113 dX3_comesAhead_56 (by decide) ?_
      refine x_zret (M := mX3_comesAhead) (pc := 113) dX3_comesAhead_113 rfl (by first | with_reducible exact xz0 | with_reducible exact xz1 | with_reducible exact bI_01 _ | with_reducible assumption | assumption) (Nat.le_refl 0) (Nat.le_refl 0) ⟨congrArg Sum.inl ?_, rfl⟩
      first | exact vB1 (decide_eq_true (by omega)) | exact vB0 (decide_eq_false (by omega))
theorem m_wholeFrom_l (d : Nat) (hd : 1 ≤ d) (s : Row) (hW : WF s) (O : Nat → Nat) (om : Nat) (hN : NT I B s O om) (f ln : Nat) (hf : f ≤ om * zN s 11) (hl1 : 1 ≤ ln) (hl2 : ln ≤ 20) (h : xH) (hM : MR g h m A I B wd) (Q : xO → xH → Prop) (hE : Q (.inl (some (.int (eI (if p_whF O (zN s 11) (om * zN s 11) f ln < om * zN s 11 then some (p_whF O (zN s 11) (om * zN s 11) f ln) else none))))) h) :
    ∀ q k, k + q = om * zN s 11 → f ≤ k → p_whF O (zN s 11) (om * zN s 11) f ln = fstN (p_whC O (zN s 11) (om * zN s 11) f ln) q k → ∀ a5, X g l mX3_wholeFrom d 0 0 Q 42 [some (.ref m), some (.int (nI f)), some (.int (nI ln)), some (.int (nI (om * zN s 11))), some (.int (nI k)), a5] [] h 0 0 := by
  have hO := p_opn_lt hN.2.2.1 (zN s 11)
  have hall : om * zN s 11 ≤ 32 * 9 := Nat.mul_le_mul hN.2.2.2.1 hW.2.2.2.2.2.1.2.2
  intro q
  induction q with
  | zero =>
    intro k hk hfk he a5
    rw [he, fstN, if_neg (by omega)] at hE
    refine x_iload (M := mX3_wholeFrom) (pc := 42) dX3_wholeFrom_42 rfl ?_
    refine x_iload_n (M := mX3_wholeFrom) (pc := 44) dX3_wholeFrom_44 rfl ?_
    first | with_reducible refine x_icmp_geN (M := mX3_wholeFrom) (pc := 45) 119 dX3_wholeFrom_45 (by decide) (by omega) (by omega) (fun c1 => ?_) (fun c1 => ?_) | refine x_icmp_ge (M := mX3_wholeFrom) (pc := 45) 119 dX3_wholeFrom_45 (by decide) (fun c1 => ?_) (fun c1 => ?_)
    · refine x_iconst (M := mX3_wholeFrom) (pc := 119) (v := (-1)) dX3_wholeFrom_119 (by decide) ?_
      exact x_iret (pc := 120) dX3_wholeFrom_120 rfl (Nat.le_refl 0) (Nat.le_refl 0) hE
    · omega
  | succ q ih =>
    intro k hk hfk he a5
    have o1 := hO k
    have o2 := hO (k - 1)
    have o3 := hO (k + ln - 1)
    refine x_iload (M := mX3_wholeFrom) (pc := 42) dX3_wholeFrom_42 rfl ?_
    refine x_iload_n (M := mX3_wholeFrom) (pc := 44) dX3_wholeFrom_44 rfl ?_
    first | with_reducible refine x_icmp_geN (M := mX3_wholeFrom) (pc := 45) 119 dX3_wholeFrom_45 (by decide) (by omega) (by omega) (fun c1 => ?_) (fun c1 => ?_) | refine x_icmp_ge (M := mX3_wholeFrom) (pc := 45) 119 dX3_wholeFrom_45 (by decide) (fun c1 => ?_) (fun c1 => ?_)
    · omega
    have hst : ∀ b, p_whC O (zN s 11) (om * zN s 11) f ln k = b → p_whF O (zN s 11) (om * zN s 11) f ln = if b then k else fstN (p_whC O (zN s 11) (om * zN s 11) f ln) q (k + 1) := fun b hb => by rw [he, fstN, hb]
    refine x_joinB 76 (decide (f < k ∧ p_opn O (zN s 11) k ≠ p_opn O (zN s 11) (k - 1))) (fun J => ?_) ?_
    · refine x_iload (M := mX3_wholeFrom) (pc := 48) dX3_wholeFrom_48 rfl ?_
      refine x_iload_n (M := mX3_wholeFrom) (pc := 50) dX3_wholeFrom_50 rfl ?_
      first | with_reducible refine x_icmp_leN (M := mX3_wholeFrom) (pc := 51) 75 dX3_wholeFrom_51 (by decide) (by omega) (by omega) (fun c51 => ?_) (fun c51 => ?_) | refine x_icmp_le (M := mX3_wholeFrom) (pc := 51) 75 dX3_wholeFrom_51 (by decide) (fun c51 => ?_) (fun c51 => ?_)
      · refine x_iconst (M := mX3_wholeFrom) (pc := 75) (v := nI 0) dX3_wholeFrom_75 (by decide) ?_
        first | exact J false (by rw [decide_eq_false]; omega) | exact J true (by rw [decide_eq_true]; omega)
      · refine x_aload_n (M := mX3_wholeFrom) (pc := 54) dX3_wholeFrom_54 rfl ?_
        refine x_iload (M := mX3_wholeFrom) (pc := 55) dX3_wholeFrom_55 rfl ?_
        refine x_V1 (M := mX3_wholeFrom) (pc := 57) (M' := mX3_openingOf) q3237 kVX3_openingOf dX3_wholeFrom_57 (m_openingOf (d - 1) s hW O om hN k (by omega) h hM) (hM.is) (fun v_ h hq_ => ?_)
        obtain ⟨hv_, rfl⟩ := hq_; cases hv_
        refine x_aload_n (M := mX3_wholeFrom) (pc := 60) dX3_wholeFrom_60 rfl ?_
        refine x_iload (M := mX3_wholeFrom) (pc := 61) dX3_wholeFrom_61 rfl ?_
        refine x_iconst (M := mX3_wholeFrom) (pc := 63) (v := nI 1) dX3_wholeFrom_63 (by decide) ?_
        first | with_reducible refine x_isubN (M := mX3_wholeFrom) (pc := 64) dX3_wholeFrom_64 (by omega) ?_ | refine x_isub (M := mX3_wholeFrom) (pc := 64) dX3_wholeFrom_64 ?_
        refine x_V1 (M := mX3_wholeFrom) (pc := 65) (M' := mX3_openingOf) q3237 kVX3_openingOf dX3_wholeFrom_65 (m_openingOf (d - 1) s hW O om hN (k - 1) (by omega) h hM) (hM.is) (fun v_ h hq_ => ?_)
        obtain ⟨hv_, rfl⟩ := hq_; cases hv_
        first | with_reducible refine x_icmp_eqN (M := mX3_wholeFrom) (pc := 68) 75 dX3_wholeFrom_68 (by decide) (by omega) (by omega) (fun c68 => ?_) (fun c68 => ?_) | refine x_icmp_eq (M := mX3_wholeFrom) (pc := 68) 75 dX3_wholeFrom_68 (by decide) (fun c68 => ?_) (fun c68 => ?_)
        · refine x_iconst (M := mX3_wholeFrom) (pc := 75) (v := nI 0) dX3_wholeFrom_75 (by decide) ?_
          first | exact J false (by rw [decide_eq_false]; omega) | exact J true (by rw [decide_eq_true]; omega)
        · refine x_iconst (M := mX3_wholeFrom) (pc := 71) (v := nI 1) dX3_wholeFrom_71 (by decide) ?_
          refine x_goto (M := mX3_wholeFrom) (pc := 72) 76 dX3_wholeFrom_72 (by decide) ?_
          first | exact J false (by rw [decide_eq_false]; omega) | exact J true (by rw [decide_eq_true]; omega)
    refine x_istore5 (M := mX3_wholeFrom) (pc := 76) dX3_wholeFrom_76 ?_
    refine x_iload (M := mX3_wholeFrom) (pc := 78) dX3_wholeFrom_78 rfl ?_
    first | with_reducible refine x_ifB_eq (M := mX3_wholeFrom) (pc := 80) 113 dX3_wholeFrom_80 (by decide) (fun c80 => ?_) (fun c80 => ?_) | with_reducible refine x_if_eqN (M := mX3_wholeFrom) (pc := 80) 113 dX3_wholeFrom_80 (by decide) (by omega) (fun c80 => ?_) (fun c80 => ?_) | refine x_if_eq (M := mX3_wholeFrom) (pc := 80) 113 dX3_wholeFrom_80 (by decide) (fun c80 => ?_) (fun c80 => ?_)
    · first | refine x_iinc4N (M := mX3_wholeFrom) (pc := 113) (c := 1) dX3_wholeFrom_113 oI1 ?_ | refine x_iinc4 (M := mX3_wholeFrom) (pc := 113) (c := 1) dX3_wholeFrom_113 (by decide) ?_
      refine x_goto (M := mX3_wholeFrom) (pc := 116) 42 dX3_wholeFrom_116 (by decide) ?_
      refine ih (k + 1) (by omega) (by omega) (hst false ?_) _; unfold p_whC; first | (rw [c80]; rfl) | (rw [c80, decide_eq_false (by omega)]; rfl) | (rw [c80, decide_eq_true (by omega), decide_eq_false (by omega)]; rfl)
    · refine x_iload (M := mX3_wholeFrom) (pc := 83) dX3_wholeFrom_83 rfl ?_
      refine x_iload_n (M := mX3_wholeFrom) (pc := 85) dX3_wholeFrom_85 rfl ?_
      first | with_reducible refine x_iaddN (M := mX3_wholeFrom) (pc := 86) dX3_wholeFrom_86 ?_ | refine x_iadd (M := mX3_wholeFrom) (pc := 86) dX3_wholeFrom_86 ?_
      refine x_iload_n (M := mX3_wholeFrom) (pc := 87) dX3_wholeFrom_87 rfl ?_
      first | with_reducible refine x_icmp_gtN (M := mX3_wholeFrom) (pc := 88) 113 dX3_wholeFrom_88 (by decide) (by omega) (by omega) (fun c88 => ?_) (fun c88 => ?_) | refine x_icmp_gt (M := mX3_wholeFrom) (pc := 88) 113 dX3_wholeFrom_88 (by decide) (fun c88 => ?_) (fun c88 => ?_)
      · first | refine x_iinc4N (M := mX3_wholeFrom) (pc := 113) (c := 1) dX3_wholeFrom_113 oI1 ?_ | refine x_iinc4 (M := mX3_wholeFrom) (pc := 113) (c := 1) dX3_wholeFrom_113 (by decide) ?_
        refine x_goto (M := mX3_wholeFrom) (pc := 116) 42 dX3_wholeFrom_116 (by decide) ?_
        refine ih (k + 1) (by omega) (by omega) (hst false ?_) _; unfold p_whC; first | (rw [c80]; rfl) | (rw [c80, decide_eq_false (by omega)]; rfl) | (rw [c80, decide_eq_true (by omega), decide_eq_false (by omega)]; rfl)
      · refine x_aload_n (M := mX3_wholeFrom) (pc := 91) dX3_wholeFrom_91 rfl ?_
        refine x_iload (M := mX3_wholeFrom) (pc := 92) dX3_wholeFrom_92 rfl ?_
        refine x_V1 (M := mX3_wholeFrom) (pc := 94) (M' := mX3_openingOf) q3237 kVX3_openingOf dX3_wholeFrom_94 (m_openingOf (d - 1) s hW O om hN k (by omega) h hM) (hM.is) (fun v_ h hq_ => ?_)
        obtain ⟨hv_, rfl⟩ := hq_; cases hv_
        refine x_aload_n (M := mX3_wholeFrom) (pc := 97) dX3_wholeFrom_97 rfl ?_
        refine x_iload (M := mX3_wholeFrom) (pc := 98) dX3_wholeFrom_98 rfl ?_
        refine x_iload_n (M := mX3_wholeFrom) (pc := 100) dX3_wholeFrom_100 rfl ?_
        first | with_reducible refine x_iaddN (M := mX3_wholeFrom) (pc := 101) dX3_wholeFrom_101 ?_ | refine x_iadd (M := mX3_wholeFrom) (pc := 101) dX3_wholeFrom_101 ?_
        refine x_iconst (M := mX3_wholeFrom) (pc := 102) (v := nI 1) dX3_wholeFrom_102 (by decide) ?_
        first | with_reducible refine x_isubN (M := mX3_wholeFrom) (pc := 103) dX3_wholeFrom_103 (by omega) ?_ | refine x_isub (M := mX3_wholeFrom) (pc := 103) dX3_wholeFrom_103 ?_
        refine x_V1 (M := mX3_wholeFrom) (pc := 104) (M' := mX3_openingOf) q3237 kVX3_openingOf dX3_wholeFrom_104 (m_openingOf (d - 1) s hW O om hN (k + ln - 1) (by omega) h hM) (hM.is) (fun v_ h hq_ => ?_)
        obtain ⟨hv_, rfl⟩ := hq_; cases hv_
        first | with_reducible refine x_icmp_neN (M := mX3_wholeFrom) (pc := 107) 113 dX3_wholeFrom_107 (by decide) (by omega) (by omega) (fun c107 => ?_) (fun c107 => ?_) | refine x_icmp_ne (M := mX3_wholeFrom) (pc := 107) 113 dX3_wholeFrom_107 (by decide) (fun c107 => ?_) (fun c107 => ?_)
        · first | refine x_iinc4N (M := mX3_wholeFrom) (pc := 113) (c := 1) dX3_wholeFrom_113 oI1 ?_ | refine x_iinc4 (M := mX3_wholeFrom) (pc := 113) (c := 1) dX3_wholeFrom_113 (by decide) ?_
          refine x_goto (M := mX3_wholeFrom) (pc := 116) 42 dX3_wholeFrom_116 (by decide) ?_
          refine ih (k + 1) (by omega) (by omega) (hst false ?_) _; unfold p_whC; first | (rw [c80]; rfl) | (rw [c80, decide_eq_false (by omega)]; rfl) | (rw [c80, decide_eq_true (by omega), decide_eq_false (by omega)]; rfl)
        · refine x_iload (M := mX3_wholeFrom) (pc := 110) dX3_wholeFrom_110 rfl ?_
          have hz := hst true (by unfold p_whC; rw [c80, decide_eq_true (by omega), decide_eq_true (by omega)]; rfl); rw [if_pos rfl] at hz; rw [hz, if_pos (by omega)] at hE; exact x_iret (pc := 112) dX3_wholeFrom_112 rfl (Nat.le_refl 0) (Nat.le_refl 0) hE
theorem m_wholeFrom (d : Nat) (hd : 1 ≤ d) (s : Row) (hW : WF s) (O : Nat → Nat) (om : Nat) (hN : NT I B s O om) (f ln : Nat) (hf : f ≤ om * zN s 11) (hl1 : 1 ≤ ln) (hl2 : ln ≤ 20) : MCr g l mX3_wholeFrom d [.int (nI f), .int (nI ln)] m A I B wd (some (.int (eI (p_whole O (zN s 11) (om * zN s 11) f ln)))) := by
  intro h hM
  have hO := p_opn_lt hN.2.2.1 (zN s 11)
  have hall : om * zN s 11 ≤ 32 * 9 := Nat.mul_le_mul hN.2.2.2.1 hW.2.2.2.2.2.1.2.2
  have o1 := hO f
  have o2 := hO (f + ln - 1)
  have h11 : B 0 11 = nI (zN s 11) := by rw [hN.2.2.2.2]; exact hW.2.2.2.2.2.1.1
  refine Ct.of [some (.ref m), some (.int (nI f)), some (.int (nI ln)), none, none, none] (by decide +kernel) rfl (Nat.le_of_ble_eq_true rfl) rfl rfl ?_
  refine x_aload_n (M := mX3_wholeFrom) (pc := 0) dX3_wholeFrom_0 rfl ?_
  refine x_get (M := mX3_wholeFrom) (pc := 1) kcX3 28 rfl q2863 dX3_wholeFrom_1 hM.1 rfl ?_
  refine x_val (M := mX3_wholeFrom) (pc := 4) (hN.1) ?_
  refine x_aload_n (M := mX3_wholeFrom) (pc := 4) dX3_wholeFrom_4 rfl ?_
  refine x_get (M := mX3_wholeFrom) (pc := 5) kcX3 0 rfl q2835 dX3_wholeFrom_5 hM.1 rfl ?_
  refine x_bipush (M := mX3_wholeFrom) (pc := 8) (v := nI 11) dX3_wholeFrom_8 (by decide) ?_
  refine xm_ialdV (M := mX3_wholeFrom) (pc := 10) hM dX3_wholeFrom_10 (h11) (by decide) (by first | decide | (simp only [mSz] <;> omega)) ?_
  first | with_reducible refine x_imulN (M := mX3_wholeFrom) (pc := 11) dX3_wholeFrom_11 ?_ | refine x_imul (M := mX3_wholeFrom) (pc := 11) dX3_wholeFrom_11 ?_
  refine x_istore3 (M := mX3_wholeFrom) (pc := 12) dX3_wholeFrom_12 ?_
  refine x_iload_n (M := mX3_wholeFrom) (pc := 13) dX3_wholeFrom_13 rfl ?_
  refine x_iload_n (M := mX3_wholeFrom) (pc := 14) dX3_wholeFrom_14 rfl ?_
  first | with_reducible refine x_iaddN (M := mX3_wholeFrom) (pc := 15) dX3_wholeFrom_15 ?_ | refine x_iadd (M := mX3_wholeFrom) (pc := 15) dX3_wholeFrom_15 ?_
  refine x_iload_n (M := mX3_wholeFrom) (pc := 16) dX3_wholeFrom_16 rfl ?_
  first | with_reducible refine x_icmp_gtN (M := mX3_wholeFrom) (pc := 17) 39 dX3_wholeFrom_17 (by decide) (by omega) (by omega) (fun c17 => ?_) (fun c17 => ?_) | refine x_icmp_gt (M := mX3_wholeFrom) (pc := 17) 39 dX3_wholeFrom_17 (by decide) (fun c17 => ?_) (fun c17 => ?_)
  · refine x_iload_n (M := mX3_wholeFrom) (pc := 39) dX3_wholeFrom_39 rfl ?_
    refine x_istore4 (M := mX3_wholeFrom) (pc := 40) dX3_wholeFrom_40 ?_
    refine m_wholeFrom_l d hd s hW O om hN f ln hf hl1 hl2 h hM _ ⟨congrArg Sum.inl ?_, rfl⟩ (om * zN s 11 - f) f (by omega) (Nat.le_refl _) rfl _; rw [p_whole, if_neg (show ¬ (f + ln ≤ om * zN s 11 ∧ p_opn O (zN s 11) f = p_opn O (zN s 11) (f + ln - 1)) by omega)]
  · refine x_aload_n (M := mX3_wholeFrom) (pc := 20) dX3_wholeFrom_20 rfl ?_
    refine x_iload_n (M := mX3_wholeFrom) (pc := 21) dX3_wholeFrom_21 rfl ?_
    refine x_V1 (M := mX3_wholeFrom) (pc := 22) (M' := mX3_openingOf) q3237 kVX3_openingOf dX3_wholeFrom_22 (m_openingOf (d - 1) s hW O om hN f (by omega) h hM) (hM.is) (fun v_ h hq_ => ?_)
    obtain ⟨hv_, rfl⟩ := hq_; cases hv_
    refine x_aload_n (M := mX3_wholeFrom) (pc := 25) dX3_wholeFrom_25 rfl ?_
    refine x_iload_n (M := mX3_wholeFrom) (pc := 26) dX3_wholeFrom_26 rfl ?_
    refine x_iload_n (M := mX3_wholeFrom) (pc := 27) dX3_wholeFrom_27 rfl ?_
    first | with_reducible refine x_iaddN (M := mX3_wholeFrom) (pc := 28) dX3_wholeFrom_28 ?_ | refine x_iadd (M := mX3_wholeFrom) (pc := 28) dX3_wholeFrom_28 ?_
    refine x_iconst (M := mX3_wholeFrom) (pc := 29) (v := nI 1) dX3_wholeFrom_29 (by decide) ?_
    first | with_reducible refine x_isubN (M := mX3_wholeFrom) (pc := 30) dX3_wholeFrom_30 (by omega) ?_ | refine x_isub (M := mX3_wholeFrom) (pc := 30) dX3_wholeFrom_30 ?_
    refine x_V1 (M := mX3_wholeFrom) (pc := 31) (M' := mX3_openingOf) q3237 kVX3_openingOf dX3_wholeFrom_31 (m_openingOf (d - 1) s hW O om hN (f + ln - 1) (by omega) h hM) (hM.is) (fun v_ h hq_ => ?_)
    obtain ⟨hv_, rfl⟩ := hq_; cases hv_
    first | with_reducible refine x_icmp_neN (M := mX3_wholeFrom) (pc := 34) 39 dX3_wholeFrom_34 (by decide) (by omega) (by omega) (fun c34 => ?_) (fun c34 => ?_) | refine x_icmp_ne (M := mX3_wholeFrom) (pc := 34) 39 dX3_wholeFrom_34 (by decide) (fun c34 => ?_) (fun c34 => ?_)
    · refine x_iload_n (M := mX3_wholeFrom) (pc := 39) dX3_wholeFrom_39 rfl ?_
      refine x_istore4 (M := mX3_wholeFrom) (pc := 40) dX3_wholeFrom_40 ?_
      refine m_wholeFrom_l d hd s hW O om hN f ln hf hl1 hl2 h hM _ ⟨congrArg Sum.inl ?_, rfl⟩ (om * zN s 11 - f) f (by omega) (Nat.le_refl _) rfl _; rw [p_whole, if_neg (show ¬ (f + ln ≤ om * zN s 11 ∧ p_opn O (zN s 11) f = p_opn O (zN s 11) (f + ln - 1)) by omega)]
    · refine x_iload_n (M := mX3_wholeFrom) (pc := 37) dX3_wholeFrom_37 rfl ?_
      refine x_iret (M := mX3_wholeFrom) (pc := 38) dX3_wholeFrom_38 rfl (Nat.le_refl 0) (Nat.le_refl 0) ⟨congrArg Sum.inl ?_, rfl⟩
      rw [p_whole, if_pos (by omega)]; rfl
end MODELI
