section MODELM
set_option maxRecDepth 100000
def p_li1 (s : Row) (line k : Nat) : Bool := match zFL s k with
  | none => false
  | some v => decide (v ≤ line ∧ line ≤ v + zN s (40 + 4 * k) - 1)
def p_lin (s : Row) (line : Nat) : Nat → Bool
  | 0 => false
  | k + 1 => p_lin s line k || p_li1 s line k
def zLines (s : Row) (pg : Nat) : Nat → Nat := smN (fun line => if p_lin s line (zN s 37) && decide (zO s (line / zN s 11) = pg) then 1 else 0)
variable {g : xG} {l : Launch} {m : Nat} {A : Nat → Nat} {I : Nat → Int32} {B : Nat → Nat → Int32} {wd : Int64}
theorem m_linesOn_l1 (d : Nat) (hd : 1 ≤ d) (s : Row) (hW : WF s) (hN : NT I B s (zO s) (zOm s)) (hfl : ∀ t, t < zN s 37 → B 30 t = eI (zFL s t)) (a1 : Option Value) (x2 : Int32) (line : Nat) (hline : line < 2 ^ 31) (h : xH) (hM : MR g h m A I B wd) (Q : xO → xH → Prop)
    (hE : X g l mX3_linesOn d 0 0 Q 111 [some (.ref m), a1, some (.int x2), some (.int (nI line)), some (.int (bI (p_lin s line (zN s 37)))), some (.int (nI (zN s 37)))] [] h 0 0) :
    ∀ q k, k + q = zN s 37 → X g l mX3_linesOn d 0 0 Q 30 [some (.ref m), a1, some (.int x2), some (.int (nI line)), some (.int (bI (p_lin s line k))), some (.int (nI k))] [] h 0 0 := by
  obtain ⟨h37, h37b⟩ := hW.2.2.2.2.2.2.2.2.1
  obtain ⟨h11, h11a, h11b⟩ := hW.2.2.2.2.2.1
  have hB0 := hN.2.2.2.2
  have hall : zOm s * zN s 11 ≤ 32 * 9 := Nat.mul_le_mul hN.2.2.2.1 h11b
  have v37 : B 0 37 = nI (zN s 37) := by rw [hB0]; exact h37
  intro q
  induction q with
  | zero =>
    intro k hk
    have : k = zN s 37 := by omega
    subst this
    refine x_iload (M := mX3_linesOn) (pc := 30) dX3_linesOn_30 rfl ?_
    refine x_aload_n (M := mX3_linesOn) (pc := 32) dX3_linesOn_32 rfl ?_
    refine x_get (M := mX3_linesOn) (pc := 33) kcX3 0 rfl q2835 dX3_linesOn_33 hM.1 rfl ?_
    refine x_bipush (M := mX3_linesOn) (pc := 36) (v := nI 37) dX3_linesOn_36 (by decide) ?_
    refine xm_ialdV (M := mX3_linesOn) (pc := 38) hM dX3_linesOn_38 (v37) (by decide) (by first | decide | (simp only [mSz] <;> omega)) ?_
    first | with_reducible refine x_icmp_geN (M := mX3_linesOn) (pc := 39) 111 dX3_linesOn_39 (by decide) (by omega) (by omega) (fun c1 => ?_) (fun c1 => ?_) | refine x_icmp_ge (M := mX3_linesOn) (pc := 39) 111 dX3_linesOn_39 (by decide) (fun c1 => ?_) (fun c1 => ?_)
    · exact hE
    · omega
  | succ q ih =>
    intro k hk
    obtain ⟨-, -, ⟨e2, e2a, e2b⟩, -⟩ := hW.2.2.2.2.2.2.2.2.2.1 k (by omega)
    have v2 : B 0 (38 + 4 * k + 2) = nI (zN s (40 + 4 * k)) := by rw [hB0, show 38 + 4 * k + 2 = 40 + 4 * k by omega]; exact e2
    have hst : p_lin s line (k + 1) = (p_lin s line k || p_li1 s line k) := rfl
    refine x_iload (M := mX3_linesOn) (pc := 30) dX3_linesOn_30 rfl ?_
    refine x_aload_n (M := mX3_linesOn) (pc := 32) dX3_linesOn_32 rfl ?_
    refine x_get (M := mX3_linesOn) (pc := 33) kcX3 0 rfl q2835 dX3_linesOn_33 hM.1 rfl ?_
    refine x_bipush (M := mX3_linesOn) (pc := 36) (v := nI 37) dX3_linesOn_36 (by decide) ?_
    refine xm_ialdV (M := mX3_linesOn) (pc := 38) hM dX3_linesOn_38 (v37) (by decide) (by first | decide | (simp only [mSz] <;> omega)) ?_
    first | with_reducible refine x_icmp_geN (M := mX3_linesOn) (pc := 39) 111 dX3_linesOn_39 (by decide) (by omega) (by omega) (fun c1 => ?_) (fun c1 => ?_) | refine x_icmp_ge (M := mX3_linesOn) (pc := 39) 111 dX3_linesOn_39 (by decide) (fun c1 => ?_) (fun c1 => ?_)
    · omega
    cases hr : zFL s k with
    | none =>
      have hv : B 30 k = -1 := (hfl k (by omega)).trans (by rw [hr]; rfl)
      have h1 : p_li1 s line k = false := by unfold p_li1; rw [hr]
      refine x_joinB 103 (p_lin s line (k + 1)) (fun J => ?_) ?_
      · refine x_iload (M := mX3_linesOn) (pc := 42) dX3_linesOn_42 rfl ?_
        first | with_reducible refine x_ifB_ne (M := mX3_linesOn) (pc := 44) 98 dX3_linesOn_44 (by decide) (fun c44 => ?_) (fun c44 => ?_) | with_reducible refine x_if_neN (M := mX3_linesOn) (pc := 44) 98 dX3_linesOn_44 (by decide) (by omega) (fun c44 => ?_) (fun c44 => ?_) | refine x_if_ne (M := mX3_linesOn) (pc := 44) 98 dX3_linesOn_44 (by decide) (fun c44 => ?_) (fun c44 => ?_)
        · refine x_iconst (M := mX3_linesOn) (pc := 98) (v := nI 1) dX3_linesOn_98 (by decide) ?_
          refine x_goto (M := mX3_linesOn) (pc := 99) 103 dX3_linesOn_99 (by decide) ?_
          first | exact J true (by rw [hst, c44]; rfl) | exact J false (by rw [hst, c44, h1]; rfl)
        · refine x_aload_n (M := mX3_linesOn) (pc := 47) dX3_linesOn_47 rfl ?_
          refine x_get (M := mX3_linesOn) (pc := 48) kcX3 30 rfl q2865 dX3_linesOn_48 hM.1 rfl ?_
          refine x_iload (M := mX3_linesOn) (pc := 51) dX3_linesOn_51 rfl ?_
          refine xm_ialdV (M := mX3_linesOn) (pc := 53) hM dX3_linesOn_53 (hv) (by decide) (by first | decide | (simp only [mSz] <;> omega)) ?_
          first | refine x_if_lt (M := mX3_linesOn) (pc := 54) 102 dX3_linesOn_54 (by decide) (fun c54 => ?_) (fun c54 => ?_)
          · refine x_iconst (M := mX3_linesOn) (pc := 102) (v := nI 0) dX3_linesOn_102 (by decide) ?_
            first | exact J true (by rw [hst, c44]; rfl) | exact J false (by rw [hst, c44, h1]; rfl)
          · exact absurd (by decide) c54
      refine x_istore4 (M := mX3_linesOn) (pc := 103) dX3_linesOn_103 ?_
      first | refine x_iinc5N (M := mX3_linesOn) (pc := 105) (c := 1) dX3_linesOn_105 oI1 ?_ | refine x_iinc5 (M := mX3_linesOn) (pc := 105) (c := 1) dX3_linesOn_105 (by decide) ?_
      refine x_goto (M := mX3_linesOn) (pc := 108) 30 dX3_linesOn_108 (by decide) ?_
      exact ih (k + 1) (by omega)
    | some v =>
      have hv : B 30 k = nI v := (hfl k (by omega)).trans (by rw [hr]; rfl)
      have hle := zFL_le h37b hr
      have h1 : p_li1 s line k = decide (v ≤ line ∧ line ≤ v + zN s (40 + 4 * k) - 1) := by unfold p_li1; rw [hr]
      refine x_joinB 103 (p_lin s line (k + 1)) (fun J => ?_) ?_
      · refine x_iload (M := mX3_linesOn) (pc := 42) dX3_linesOn_42 rfl ?_
        first | with_reducible refine x_ifB_ne (M := mX3_linesOn) (pc := 44) 98 dX3_linesOn_44 (by decide) (fun c44 => ?_) (fun c44 => ?_) | with_reducible refine x_if_neN (M := mX3_linesOn) (pc := 44) 98 dX3_linesOn_44 (by decide) (by omega) (fun c44 => ?_) (fun c44 => ?_) | refine x_if_ne (M := mX3_linesOn) (pc := 44) 98 dX3_linesOn_44 (by decide) (fun c44 => ?_) (fun c44 => ?_)
        · refine x_iconst (M := mX3_linesOn) (pc := 98) (v := nI 1) dX3_linesOn_98 (by decide) ?_
          refine x_goto (M := mX3_linesOn) (pc := 99) 103 dX3_linesOn_99 (by decide) ?_
          first | exact J true (by rw [hst, c44]; rfl) | exact J true (by rw [hst, c44, h1, c95]; rfl) | exact J false (by rw [hst, c44, h1, c95]; rfl)
        · refine x_aload_n (M := mX3_linesOn) (pc := 47) dX3_linesOn_47 rfl ?_
          refine x_get (M := mX3_linesOn) (pc := 48) kcX3 30 rfl q2865 dX3_linesOn_48 hM.1 rfl ?_
          refine x_iload (M := mX3_linesOn) (pc := 51) dX3_linesOn_51 rfl ?_
          refine xm_ialdV (M := mX3_linesOn) (pc := 53) hM dX3_linesOn_53 (hv) (by decide) (by first | decide | (simp only [mSz] <;> omega)) ?_
          first | refine x_if_lt (M := mX3_linesOn) (pc := 54) 102 dX3_linesOn_54 (by decide) (fun c54 => ?_) (fun c54 => ?_)
          · exact absurd c54 (nI_pos (by omega))
          · refine x_iload_n (M := mX3_linesOn) (pc := 57) dX3_linesOn_57 rfl ?_
            refine x_i2l (M := mX3_linesOn) (pc := 58) dX3_linesOn_58 ?_
            refine x_aload_n (M := mX3_linesOn) (pc := 59) dX3_linesOn_59 rfl ?_
            refine x_get (M := mX3_linesOn) (pc := 60) kcX3 30 rfl q2865 dX3_linesOn_60 hM.1 rfl ?_
            refine x_iload (M := mX3_linesOn) (pc := 63) dX3_linesOn_63 rfl ?_
            refine xm_ialdV (M := mX3_linesOn) (pc := 65) hM dX3_linesOn_65 (hv) (by decide) (by first | decide | (simp only [mSz] <;> omega)) ?_
            refine x_i2l (M := mX3_linesOn) (pc := 66) dX3_linesOn_66 ?_
            refine x_aload_n (M := mX3_linesOn) (pc := 67) dX3_linesOn_67 rfl ?_
            refine x_get (M := mX3_linesOn) (pc := 68) kcX3 30 rfl q2865 dX3_linesOn_68 hM.1 rfl ?_
            refine x_iload (M := mX3_linesOn) (pc := 71) dX3_linesOn_71 rfl ?_
            refine xm_ialdV (M := mX3_linesOn) (pc := 73) hM dX3_linesOn_73 (hv) (by decide) (by first | decide | (simp only [mSz] <;> omega)) ?_
            refine x_aload_n (M := mX3_linesOn) (pc := 74) dX3_linesOn_74 rfl ?_
            refine x_get (M := mX3_linesOn) (pc := 75) kcX3 0 rfl q2835 dX3_linesOn_75 hM.1 rfl ?_
            refine x_bipush (M := mX3_linesOn) (pc := 78) (v := nI 38) dX3_linesOn_78 (by decide) ?_
            refine x_iconst (M := mX3_linesOn) (pc := 80) (v := nI 4) dX3_linesOn_80 (by decide) ?_
            refine x_iload (M := mX3_linesOn) (pc := 81) dX3_linesOn_81 rfl ?_
            first | with_reducible refine x_imulN (M := mX3_linesOn) (pc := 83) dX3_linesOn_83 ?_ | refine x_imul (M := mX3_linesOn) (pc := 83) dX3_linesOn_83 ?_
            first | with_reducible refine x_iaddN (M := mX3_linesOn) (pc := 84) dX3_linesOn_84 ?_ | refine x_iadd (M := mX3_linesOn) (pc := 84) dX3_linesOn_84 ?_
            refine x_iconst (M := mX3_linesOn) (pc := 85) (v := nI 2) dX3_linesOn_85 (by decide) ?_
            first | with_reducible refine x_iaddN (M := mX3_linesOn) (pc := 86) dX3_linesOn_86 ?_ | refine x_iadd (M := mX3_linesOn) (pc := 86) dX3_linesOn_86 ?_
            refine xm_ialdV (M := mX3_linesOn) (pc := 87) hM dX3_linesOn_87 (v2) (by decide) (by first | decide | (simp only [mSz] <;> omega)) ?_
            first | with_reducible refine x_iaddN (M := mX3_linesOn) (pc := 88) dX3_linesOn_88 ?_ | refine x_iadd (M := mX3_linesOn) (pc := 88) dX3_linesOn_88 ?_
            refine x_iconst (M := mX3_linesOn) (pc := 89) (v := nI 1) dX3_linesOn_89 (by decide) ?_
            first | with_reducible refine x_isubN (M := mX3_linesOn) (pc := 90) dX3_linesOn_90 (by omega) ?_ | refine x_isub (M := mX3_linesOn) (pc := 90) dX3_linesOn_90 ?_
            refine x_i2l (M := mX3_linesOn) (pc := 91) dX3_linesOn_91 ?_
            refine x_S3 (M := mX3_linesOn) (pc := 92) (M' := mX3_in) q2949 kSX3_in dX3_linesOn_92 (m_inN h line v (v + zN s (40 + 4 * k) - 1) _ _ rfl rfl (by omega) (by omega) (by omega) (d - 1)) (fun v_ h hq_ => ?_)
            obtain ⟨hv_, rfl⟩ := hq_; cases hv_
            first | with_reducible refine x_ifB_eq (M := mX3_linesOn) (pc := 95) 102 dX3_linesOn_95 (by decide) (fun c95 => ?_) (fun c95 => ?_) | with_reducible refine x_if_eqN (M := mX3_linesOn) (pc := 95) 102 dX3_linesOn_95 (by decide) (by omega) (fun c95 => ?_) (fun c95 => ?_) | refine x_if_eq (M := mX3_linesOn) (pc := 95) 102 dX3_linesOn_95 (by decide) (fun c95 => ?_) (fun c95 => ?_)
            · refine x_iconst (M := mX3_linesOn) (pc := 102) (v := nI 0) dX3_linesOn_102 (by decide) ?_
              first | exact J true (by rw [hst, c44]; rfl) | exact J true (by rw [hst, c44, h1, c95]; rfl) | exact J false (by rw [hst, c44, h1, c95]; rfl)
            · refine x_iconst (M := mX3_linesOn) (pc := 98) (v := nI 1) dX3_linesOn_98 (by decide) ?_
              refine x_goto (M := mX3_linesOn) (pc := 99) 103 dX3_linesOn_99 (by decide) ?_
              first | exact J true (by rw [hst, c44]; rfl) | exact J true (by rw [hst, c44, h1, c95]; rfl) | exact J false (by rw [hst, c44, h1, c95]; rfl)
      refine x_istore4 (M := mX3_linesOn) (pc := 103) dX3_linesOn_103 ?_
      first | refine x_iinc5N (M := mX3_linesOn) (pc := 105) (c := 1) dX3_linesOn_105 oI1 ?_ | refine x_iinc5 (M := mX3_linesOn) (pc := 105) (c := 1) dX3_linesOn_105 (by decide) ?_
      refine x_goto (M := mX3_linesOn) (pc := 108) 30 dX3_linesOn_108 (by decide) ?_
      exact ih (k + 1) (by omega)
theorem m_linesOn_l2 (d : Nat) (hd : 1 ≤ d) (s : Row) (hW : WF s) (hN : NT I B s (zO s) (zOm s)) (hfl : ∀ t, t < zN s 37 → B 30 t = eI (zFL s t)) (pg : Nat) (hpg : pg < 32) (h : xH) (hM : MR g h m A I B wd) (Q : xO → xH → Prop)
    (hE : Q (.inl (some (.int (nI (zLines s pg (zOm s * zN s 11)))))) h) :
    ∀ q k, k + q = zOm s * zN s 11 → ∀ a4 a5, X g l mX3_linesOn d 0 0 Q 8 [some (.ref m), some (.int (nI pg)), some (.int (nI (zLines s pg k))), some (.int (nI k)), a4, a5] [] h 0 0 := by
  obtain ⟨h11, h11a, h11b⟩ := hW.2.2.2.2.2.1
  have hB0 := hN.2.2.2.2
  have hom := hN.2.2.2.1
  have hall : zOm s * zN s 11 ≤ 32 * 9 := Nat.mul_le_mul hN.2.2.2.1 h11b
  have v11 : B 0 11 = nI (zN s 11) := by rw [hB0]; exact h11
  intro q
  induction q with
  | zero =>
    intro k hk a4 a5
    have : k = zOm s * zN s 11 := by omega
    subst this
    refine x_iload_n (M := mX3_linesOn) (pc := 8) dX3_linesOn_8 rfl ?_
    refine x_aload_n (M := mX3_linesOn) (pc := 9) dX3_linesOn_9 rfl ?_
    refine x_get (M := mX3_linesOn) (pc := 10) kcX3 28 rfl q2863 dX3_linesOn_10 hM.1 rfl ?_
    refine x_val (M := mX3_linesOn) (pc := 13) (hN.1) ?_
    refine x_aload_n (M := mX3_linesOn) (pc := 13) dX3_linesOn_13 rfl ?_
    refine x_get (M := mX3_linesOn) (pc := 14) kcX3 0 rfl q2835 dX3_linesOn_14 hM.1 rfl ?_
    refine x_bipush (M := mX3_linesOn) (pc := 17) (v := nI 11) dX3_linesOn_17 (by decide) ?_
    refine xm_ialdV (M := mX3_linesOn) (pc := 19) hM dX3_linesOn_19 (v11) (by decide) (by first | decide | (simp only [mSz] <;> omega)) ?_
    first | with_reducible refine x_imulN (M := mX3_linesOn) (pc := 20) dX3_linesOn_20 ?_ | refine x_imul (M := mX3_linesOn) (pc := 20) dX3_linesOn_20 ?_
    first | with_reducible refine x_icmp_geN (M := mX3_linesOn) (pc := 21) 148 dX3_linesOn_21 (by decide) (by omega) (by omega) (fun c1 => ?_) (fun c1 => ?_) | refine x_icmp_ge (M := mX3_linesOn) (pc := 21) 148 dX3_linesOn_21 (by decide) (fun c1 => ?_) (fun c1 => ?_)
    · refine x_iload_n (M := mX3_linesOn) (pc := 148) dX3_linesOn_148 rfl ?_
      exact x_iret (pc := 149) dX3_linesOn_149 rfl (Nat.le_refl 0) (Nat.le_refl 0) hE
    · omega
  | succ q ih =>
    intro k hk a4 a5
    have d1 : k / zN s 11 < zOm s := (Nat.div_lt_iff_lt_mul (by omega)).mpr (by omega)
    have hO := hN.2.2.1 (k / zN s 11)
    refine x_iload_n (M := mX3_linesOn) (pc := 8) dX3_linesOn_8 rfl ?_
    refine x_aload_n (M := mX3_linesOn) (pc := 9) dX3_linesOn_9 rfl ?_
    refine x_get (M := mX3_linesOn) (pc := 10) kcX3 28 rfl q2863 dX3_linesOn_10 hM.1 rfl ?_
    refine x_val (M := mX3_linesOn) (pc := 13) (hN.1) ?_
    refine x_aload_n (M := mX3_linesOn) (pc := 13) dX3_linesOn_13 rfl ?_
    refine x_get (M := mX3_linesOn) (pc := 14) kcX3 0 rfl q2835 dX3_linesOn_14 hM.1 rfl ?_
    refine x_bipush (M := mX3_linesOn) (pc := 17) (v := nI 11) dX3_linesOn_17 (by decide) ?_
    refine xm_ialdV (M := mX3_linesOn) (pc := 19) hM dX3_linesOn_19 (v11) (by decide) (by first | decide | (simp only [mSz] <;> omega)) ?_
    first | with_reducible refine x_imulN (M := mX3_linesOn) (pc := 20) dX3_linesOn_20 ?_ | refine x_imul (M := mX3_linesOn) (pc := 20) dX3_linesOn_20 ?_
    first | with_reducible refine x_icmp_geN (M := mX3_linesOn) (pc := 21) 148 dX3_linesOn_21 (by decide) (by omega) (by omega) (fun c1 => ?_) (fun c1 => ?_) | refine x_icmp_ge (M := mX3_linesOn) (pc := 21) 148 dX3_linesOn_21 (by decide) (fun c1 => ?_) (fun c1 => ?_)
    · omega
    refine x_iconst (M := mX3_linesOn) (pc := 24) (v := nI 0) dX3_linesOn_24 (by decide) ?_
    refine x_istore4 (M := mX3_linesOn) (pc := 25) dX3_linesOn_25 ?_
    refine x_iconst (M := mX3_linesOn) (pc := 27) (v := nI 0) dX3_linesOn_27 (by decide) ?_
    refine x_istore5 (M := mX3_linesOn) (pc := 28) dX3_linesOn_28 ?_
    refine m_linesOn_l1 d hd s hW hN hfl _ _ k (by omega) h hM Q ?_ _ 0 (Nat.zero_add _)
    refine x_iload_n (M := mX3_linesOn) (pc := 111) dX3_linesOn_111 rfl ?_
    refine x_joinV 140 (nI (if p_lin s k (zN s 37) && decide (zO s (k / zN s 11) = pg) then 1 else 0)) (fun J => ?_) ?_
    · refine x_iload (M := mX3_linesOn) (pc := 112) dX3_linesOn_112 rfl ?_
      first | with_reducible refine x_ifB_eq (M := mX3_linesOn) (pc := 114) 139 dX3_linesOn_114 (by decide) (fun c114 => ?_) (fun c114 => ?_) | with_reducible refine x_if_eqN (M := mX3_linesOn) (pc := 114) 139 dX3_linesOn_114 (by decide) (by omega) (fun c114 => ?_) (fun c114 => ?_) | refine x_if_eq (M := mX3_linesOn) (pc := 114) 139 dX3_linesOn_114 (by decide) (fun c114 => ?_) (fun c114 => ?_)
      · refine x_iconst (M := mX3_linesOn) (pc := 139) (v := nI 0) dX3_linesOn_139 (by decide) ?_
        first | exact J _ (by rw [c114]; rfl) | exact J _ (by rw [c114, decide_eq_true c132]; rfl) | exact J _ (by rw [c114, decide_eq_false c132]; rfl)
      · refine x_aload_n (M := mX3_linesOn) (pc := 117) dX3_linesOn_117 rfl ?_
        refine x_get (M := mX3_linesOn) (pc := 118) kcX3 29 rfl q2864 dX3_linesOn_118 hM.1 rfl ?_
        refine x_iload_n (M := mX3_linesOn) (pc := 121) dX3_linesOn_121 rfl ?_
        refine x_aload_n (M := mX3_linesOn) (pc := 122) dX3_linesOn_122 rfl ?_
        refine x_get (M := mX3_linesOn) (pc := 123) kcX3 0 rfl q2835 dX3_linesOn_123 hM.1 rfl ?_
        refine x_bipush (M := mX3_linesOn) (pc := 126) (v := nI 11) dX3_linesOn_126 (by decide) ?_
        refine xm_ialdV (M := mX3_linesOn) (pc := 128) hM dX3_linesOn_128 (v11) (by decide) (by first | decide | (simp only [mSz] <;> omega)) ?_
        first | with_reducible refine x_idivN (M := mX3_linesOn) (pc := 129) dX3_linesOn_129 (by omega) (by omega) (by omega) ?_ | refine x_idiv (M := mX3_linesOn) (pc := 129) dX3_linesOn_129 (by first | decide | assumption) ?_
        refine xm_ialdV (M := mX3_linesOn) (pc := 130) hM dX3_linesOn_130 (hN.2.1 _ d1) (by decide) (by first | decide | (simp only [mSz] <;> omega)) ?_
        refine x_iload_n (M := mX3_linesOn) (pc := 131) dX3_linesOn_131 rfl ?_
        first | with_reducible refine x_icmp_neN (M := mX3_linesOn) (pc := 132) 139 dX3_linesOn_132 (by decide) (by omega) (by omega) (fun c132 => ?_) (fun c132 => ?_) | refine x_icmp_ne (M := mX3_linesOn) (pc := 132) 139 dX3_linesOn_132 (by decide) (fun c132 => ?_) (fun c132 => ?_)
        · refine x_iconst (M := mX3_linesOn) (pc := 139) (v := nI 0) dX3_linesOn_139 (by decide) ?_
          first | exact J _ (by rw [c114]; rfl) | exact J _ (by rw [c114, decide_eq_true c132]; rfl) | exact J _ (by rw [c114, decide_eq_false c132]; rfl)
        · refine x_iconst (M := mX3_linesOn) (pc := 135) (v := nI 1) dX3_linesOn_135 (by decide) ?_
          refine x_goto (M := mX3_linesOn) (pc := 136) 140 dX3_linesOn_136 (by decide) ?_
          first | exact J _ (by rw [c114]; rfl) | exact J _ (by rw [c114, decide_eq_true c132]; rfl) | exact J _ (by rw [c114, decide_eq_false c132]; rfl)
    first | with_reducible refine x_iaddN (M := mX3_linesOn) (pc := 140) dX3_linesOn_140 ?_ | refine x_iadd (M := mX3_linesOn) (pc := 140) dX3_linesOn_140 ?_
    refine x_istore2 (M := mX3_linesOn) (pc := 141) dX3_linesOn_141 ?_
    first | refine x_iinc3N (M := mX3_linesOn) (pc := 142) (c := 1) dX3_linesOn_142 oI1 ?_ | refine x_iinc3 (M := mX3_linesOn) (pc := 142) (c := 1) dX3_linesOn_142 (by decide) ?_
    refine x_goto (M := mX3_linesOn) (pc := 145) 8 dX3_linesOn_145 (by decide) ?_
    exact ih (k + 1) (by omega) _ _
theorem m_linesOn (d : Nat) (hd : 5 ≤ d) (s : Row) (hB : BW I B s (zLy s)) (hW : WF s) (pg : Nat) (hpg : pg < 32) : MC g l mX3_linesOn d [.int (nI pg)] m A I B wd (fun v I' B' wd' => v = some (.int (nI (zLines s pg (zOm s * zN s 11)))) ∧ (∀ j, j ≠ 28 → I' j = I j) ∧ (∀ j, j ≠ 29 → j ≠ 30 → B' j = B j)) := by
  intro h hM
  have hF : MF m A h h := MF.rf
  refine Ct.of [some (.ref m), some (.int (nI pg)), none, none, none, none] (by decide +kernel) rfl (Nat.le_of_ble_eq_true rfl) rfl rfl ?_
  refine x_aload_n (M := mX3_linesOn) (pc := 0) dX3_linesOn_0 rfl ?_
  refine x_V0 (M := mX3_linesOn) (pc := 1) (M' := mX3_layNotes) q3225 kVX3_layNotes dX3_linesOn_1 (m_layNotes (d - 1) (by omega) s hB hW h hM) (hM.is) (fun v_ h hq_ => ?_)
  obtain ⟨v_, I_, B_, wd_, hv_, hQ, hM_, hF_⟩ := hq_
  cases hv_
  replace hF := hF.tr hF_
  replace hM := hM_
  clear hM_ hF_
  obtain ⟨rfl, -, hi, hb, hN, hfl⟩ := hQ
  refine x_iconst (M := mX3_linesOn) (pc := 4) (v := nI 0) dX3_linesOn_4 (by decide) ?_
  refine x_istore2 (M := mX3_linesOn) (pc := 5) dX3_linesOn_5 ?_
  refine x_iconst (M := mX3_linesOn) (pc := 6) (v := nI 0) dX3_linesOn_6 (by decide) ?_
  refine x_istore3 (M := mX3_linesOn) (pc := 7) dX3_linesOn_7 ?_
  exact m_linesOn_l2 d (by omega) s hW hN hfl pg hpg h hM _ ⟨_, _, _, _, rfl, ⟨rfl, hi, hb⟩, hM, hF⟩ _ 0 (Nat.zero_add _) _ _
end MODELM
